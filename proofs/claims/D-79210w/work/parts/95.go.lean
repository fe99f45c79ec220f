set_option maxRecDepth 100000
/-! THE SEARCH GOES -/
/-- the type that is looked for, or none -/
def OpR (H : AH) (ty : Option Nat) (g : Nat → Int32) (n : Nat) (sp : Int32) (op : Nat → Bool) : Prop := (ty = none ∧ ∀ t, t < n → op t = true) ∨ ∃ a lv ar, ty = some a ∧ kd H a = 17 ∧ gI H 65 a = lv ∧ gI H 66 a = ar ∧ ∀ t, t < n → op t = (tvFor (tvOf g t) lv ar sp).isSome
theorem OpR.ks {H H' : AH} {S : Nat → Prop} {ty : Option Nat} {g : Nat → Int32} {n : Nat} {sp : Int32} {op : Nat → Bool} (h : OpR H ty g n sp op) (hk : Ks S H H') (hs : SKd H S) : OpR H' ty g n sp op := by
  rcases h with h | ⟨a, lv, ar, h1, h2, h3, h4, h5⟩
  · exact Or.inl h
  · have e := hk.at (a := a) (by rw [h2]; decide) (fun q => by
      have := hs a (by rw [h2]; decide) q
      omega)
    exact Or.inr ⟨a, lv, ar, h1, by rw [at_kd e]; exact h2, by rw [at_gI e]; exact h3, by rw [at_gI e]; exact h4, h5⟩
section Go
variable {G : Gl} {S p to ra L n e : Nat} {ty : Option Nat} {tr tc tf tu : Nat → Nat} {sp : Int32} {g : Nat → Int32} {op : Nat → Bool}
theorem c_goTo {o d : Nat} {Qr : Option AV → AH → Prop} {Qx : String → Nat → AH → Prop} {H : AH} {mask : Nat} {row : List Nat} {b : Best} {s : Int32} {sm : Nat} (hoto : o = to) (hd : 2 ≤ d) (h : SrR H S p ty to ra mask row b) (hs : s = nI sm) (hsm : sm < 100000) (hr : row.length ≤ 8) (hQ : ∀ H', Ks (SS S ra) H H' → SrR H' S p ty to ra mask row (bUp row s b) → Qr none H') : AMet G d 1 12 yX11_go wX11_go H [vR (some S), vI (nI o), vI s] Qr Qx := by
  subst hoto
  have h0 := h
  obtain ⟨⟨a1, a2, a3, a4, a5⟩, -⟩ := h
  refine AMet.of (M := mX11_go) (maxL := 7) (by first | rfl | decide +kernel) rfl (Nat.le_of_ble_eq_true rfl) ?_
  show AW mX11_go _ _ _ _ _ _ _ 0 [some (vR (some S)), some (vI (nI o)), some (vI s), none, none, none, none] []
  refine r_iload_n (i := 1) dX11_go_0 rfl rfl ?_
  refine r_aload_n (i := 0) dX11_go_1 rfl rfl ?_
  refine r_getI dX11_go_2 fR_X11_30 (by first | assumption | (simp only [kd_sI, kd_sR, kd_sA, kd_sQ, kd_sL, kd_sD, ln_sI, ln_sR, ln_sA, ln_sQ, ln_sL, ln_sD, gI_sR, gI_sA, gI_sQ, gI_sL, gI_sD, gR_sI, gR_sA, gR_sQ, gR_sL, gR_sD, gA_sI, gA_sR, gA_sQ, gA_sL, gA_sD, gQ_sI, gQ_sR, gQ_sA, gQ_sL, gQ_sD, gL_sI, gL_sR, gL_sA, gL_sQ, gL_sD]; assumption) | simp [kd_sI, kd_sR, kd_sA, kd_sQ, kd_sL, kd_sD, ln_sI, ln_sR, ln_sA, ln_sQ, ln_sL, ln_sD, gI_sR, gI_sA, gI_sQ, gI_sL, gI_sD, gR_sI, gR_sA, gR_sQ, gR_sL, gR_sD, gA_sI, gA_sR, gA_sQ, gA_sL, gA_sD, gQ_sI, gQ_sR, gQ_sA, gQ_sL, gQ_sD, gL_sI, gL_sR, gL_sA, gL_sQ, gL_sD, kd_nO, kd_nA, *]) (by first | assumption | exact gI_sIs | exact gR_sRs | with_reducible rfl | (simp only [kd_sI, kd_sR, kd_sA, kd_sQ, kd_sL, kd_sD, ln_sI, ln_sR, ln_sA, ln_sQ, ln_sL, ln_sD, gI_sR, gI_sA, gI_sQ, gI_sL, gI_sD, gR_sI, gR_sA, gR_sQ, gR_sL, gR_sD, gA_sI, gA_sR, gA_sQ, gA_sL, gA_sD, gQ_sI, gQ_sR, gQ_sA, gQ_sL, gQ_sD, gL_sI, gL_sR, gL_sA, gL_sQ, gL_sD]; first | done | assumption | with_reducible rfl) | rfl) ?_
  refine r_icmp_ne (tgt := 14) dX11_go_5 (by decide) (fun h5 => ?_) (fun h5 => ?_)
  · exact absurd rfl h5
  · refine r_aload_n (i := 0) dX11_go_8 rfl rfl ?_
    refine r_iload_n (i := 2) dX11_go_9 rfl rfl ?_
    refine r_callV (As := [_]) (mc' := 1) (ms' := 12) dX11_go_10 k_X11_54 rfl (by first | assumption | (simp only [kd_sI, kd_sR, kd_sA, kd_sQ, kd_sL, kd_sD, ln_sI, ln_sR, ln_sA, ln_sQ, ln_sL, ln_sD, gI_sR, gI_sA, gI_sQ, gI_sL, gI_sD, gR_sI, gR_sA, gR_sQ, gR_sL, gR_sD, gA_sI, gA_sR, gA_sQ, gA_sL, gA_sD, gQ_sI, gQ_sR, gQ_sA, gQ_sL, gQ_sD, gL_sI, gL_sR, gL_sA, gL_sQ, gL_sD]; assumption) | simp [kd_sI, kd_sR, kd_sA, kd_sQ, kd_sL, kd_sD, ln_sI, ln_sR, ln_sA, ln_sQ, ln_sL, ln_sD, gI_sR, gI_sA, gI_sQ, gI_sL, gI_sD, gR_sI, gR_sA, gR_sQ, gR_sL, gR_sD, gA_sI, gA_sR, gA_sQ, gA_sL, gA_sD, gQ_sI, gQ_sR, gQ_sA, gQ_sL, gQ_sD, gL_sI, gL_sR, gL_sA, gL_sQ, gL_sD, kd_nO, kd_nA, *]) (T := TX11) (N := 9) rfl (by first | assumption | omega) (by first | assumption | omega) (by first | assumption | omega) (Nat.le_of_ble_eq_true rfl) ?_
    refine c_arrive (by omega) h0 hs hsm hr (fun H' k1 k2 => ?_)
    show AW mX11_go G d Qr Qx _ _ H' 13 _ _
    refine r_return dX11_go_13 rfl ?_
    exact hQ H' k1 k2
theorem c_go (hT : GT g) (hn : n = nat g 40) (hl : ∀ t, t < n → isN g (43 + 5 * t) 100) (hto : to < 8) :
    ∀ (f : Nat) {d : Nat} {H : AH} {Qr : Option AV → AH → Prop} {Qx : String → Nat → AH → Prop} {pl mask : Nat} {row : List Nat} {s : Int32} {sm : Nat} {b : Best}, zB mask = f → f + 10 ≤ d → mask < 256 → mask.testBit to = false → pl < 8 → mask.testBit pl = true → row.length + f ≤ 7 → s = nI sm → sm ≤ 99 * row.length → PlV G H p L n e tr tc tf tu sp g → OpR H ty g n sp op → SrR H S p ty to ra mask row b →
    (∀ H', Ks (SS S ra) H H' → SrR H' S p ty to ra mask row (dfs g op to f pl mask row s b) → Qr none H') →
    AMet G d (2 * 2 ^ (cR (kP g mask pl) 0 n + cR (lP g mask) 0 n)) (12 * 2 ^ (cR (kP g mask pl) 0 n + cR (lP g mask) 0 n)) yX11_go wX11_go H [vR (some S), vI (nI pl), vI s] Qr Qx := by
  intro f
  induction f with
  | zero =>
    intro d H Qr Qx pl mask row s sm b hz hd hm hto0
    exfalso
    have : 0 < zB mask := by
      unfold zB
      rw [List.countP_pos_iff]
      exact ⟨to, by simpa using hto, by simp [hto0]⟩
    omega
  | succ f IH =>
    intro d H Qr Qx pl mask row s sm b hz hd hm hto0 hp hpl hrow hs hsm hV hO hS hQ
    have hS0 := hS
    have kS : kd H S = 11 := hS.1.1
    have kra : kd H ra = 1047 := hS.2.1.1
    have kp : kd H p = 2 := hV.1.1
    obtain ⟨⟨a1, a2, a3, a4, a5⟩, -⟩ := hS
    have hnp : pl ≠ to := fun q => by rw [q, hto0] at hpl; cases hpl
    have n12 := hV.2.2.1
    obtain ⟨X, hX⟩ : ∃ X, 2 ^ (cR (lP g mask) 0 n) = X := ⟨_, rfl⟩
    have hU := two_pow_sum (cR (kP g mask pl) 0 n) (cR (lP g mask) 0 n)
    rw [hX] at hU
    obtain ⟨Y, hY⟩ : ∃ Y, 2 ^ (cR (kP g mask pl) 0 n + cR (lP g mask) 0 n) = Y := ⟨_, rfl⟩
    rw [hY] at hU ⊢
    obtain ⟨B, hB⟩ : ∃ B, dfs g op to (f + 1) pl mask row s b = B := ⟨_, rfl⟩
    rw [hB] at hQ
    have hB0 : scan (dfsStep (dfs g op to f) g op to pl mask row s) 0 n b = B := by rw [hn]; exact hB
    have sk : ∀ {H2 : AH}, kd H2 S = 11 → kd H2 ra = 1047 → SKd H2 (SS S ra) := fun h1 h2 a _ q => by
      rcases q with q | q
      · rw [q]; omega
      · rw [q]; omega
    refine AMet.of (M := mX11_go) (maxL := 7) (by first | rfl | decide +kernel) rfl (Nat.le_of_ble_eq_true rfl) ?_
    show AW mX11_go _ _ _ _ _ _ _ 0 [some (vR (some S)), some (vI (nI pl)), some (vI s), none, none, none, none] []
    refine r_iload_n (i := 1) dX11_go_0 rfl rfl ?_
    refine r_aload_n (i := 0) dX11_go_1 rfl rfl ?_
    refine r_getI dX11_go_2 fR_X11_30 (by first | assumption | (simp only [kd_sI, kd_sR, kd_sA, kd_sQ, kd_sL, kd_sD, ln_sI, ln_sR, ln_sA, ln_sQ, ln_sL, ln_sD, gI_sR, gI_sA, gI_sQ, gI_sL, gI_sD, gR_sI, gR_sA, gR_sQ, gR_sL, gR_sD, gA_sI, gA_sR, gA_sQ, gA_sL, gA_sD, gQ_sI, gQ_sR, gQ_sA, gQ_sL, gQ_sD, gL_sI, gL_sR, gL_sA, gL_sQ, gL_sD]; assumption) | simp [kd_sI, kd_sR, kd_sA, kd_sQ, kd_sL, kd_sD, ln_sI, ln_sR, ln_sA, ln_sQ, ln_sL, ln_sD, gI_sR, gI_sA, gI_sQ, gI_sL, gI_sD, gR_sI, gR_sA, gR_sQ, gR_sL, gR_sD, gA_sI, gA_sR, gA_sQ, gA_sL, gA_sD, gQ_sI, gQ_sR, gQ_sA, gQ_sL, gQ_sD, gL_sI, gL_sR, gL_sA, gL_sQ, gL_sD, kd_nO, kd_nA, *]) (by first | assumption | exact gI_sIs | exact gR_sRs | with_reducible rfl | (simp only [kd_sI, kd_sR, kd_sA, kd_sQ, kd_sL, kd_sD, ln_sI, ln_sR, ln_sA, ln_sQ, ln_sL, ln_sD, gI_sR, gI_sA, gI_sQ, gI_sL, gI_sD, gR_sI, gR_sA, gR_sQ, gR_sL, gR_sD, gA_sI, gA_sR, gA_sQ, gA_sL, gA_sD, gQ_sI, gQ_sR, gQ_sA, gQ_sL, gQ_sD, gL_sI, gL_sR, gL_sA, gL_sQ, gL_sD]; first | done | assumption | with_reducible rfl) | rfl) ?_
    refine r_icmp_ne (tgt := 14) dX11_go_5 (by decide) (fun h5 => ?_) (fun h5 => ?_)
    · refine r_aload_n (i := 0) dX11_go_14 rfl rfl ?_
      refine r_getR dX11_go_15 fR_X11_3 (by first | assumption | (simp only [kd_sI, kd_sR, kd_sA, kd_sQ, kd_sL, kd_sD, ln_sI, ln_sR, ln_sA, ln_sQ, ln_sL, ln_sD, gI_sR, gI_sA, gI_sQ, gI_sL, gI_sD, gR_sI, gR_sA, gR_sQ, gR_sL, gR_sD, gA_sI, gA_sR, gA_sQ, gA_sL, gA_sD, gQ_sI, gQ_sR, gQ_sA, gQ_sL, gQ_sD, gL_sI, gL_sR, gL_sA, gL_sQ, gL_sD]; assumption) | simp [kd_sI, kd_sR, kd_sA, kd_sQ, kd_sL, kd_sD, ln_sI, ln_sR, ln_sA, ln_sQ, ln_sL, ln_sD, gI_sR, gI_sA, gI_sQ, gI_sL, gI_sD, gR_sI, gR_sA, gR_sQ, gR_sL, gR_sD, gA_sI, gA_sR, gA_sQ, gA_sL, gA_sD, gQ_sI, gQ_sR, gQ_sA, gQ_sL, gQ_sD, gL_sI, gL_sR, gL_sA, gL_sQ, gL_sD, kd_nO, kd_nA, *]) (by first | assumption | exact gI_sIs | exact gR_sRs | with_reducible rfl | (simp only [kd_sI, kd_sR, kd_sA, kd_sQ, kd_sL, kd_sD, ln_sI, ln_sR, ln_sA, ln_sQ, ln_sL, ln_sD, gI_sR, gI_sA, gI_sQ, gI_sL, gI_sD, gR_sI, gR_sA, gR_sQ, gR_sL, gR_sD, gA_sI, gA_sR, gA_sQ, gA_sL, gA_sD, gQ_sI, gQ_sR, gQ_sA, gQ_sL, gQ_sD, gL_sI, gL_sR, gL_sA, gL_sQ, gL_sD]; first | done | assumption | with_reducible rfl) | rfl) ?_
      refine r_iload_n (i := 1) dX11_go_18 rfl rfl ?_
      refine r_callVN (As := [_]) (mc' := 1) (ms' := 2) dX11_go_19 k_X11_58 rfl (by first | assumption | (simp only [kd_sI, kd_sR, kd_sA, kd_sQ, kd_sL, kd_sD, ln_sI, ln_sR, ln_sA, ln_sQ, ln_sL, ln_sD, gI_sR, gI_sA, gI_sQ, gI_sL, gI_sD, gR_sI, gR_sA, gR_sQ, gR_sL, gR_sD, gA_sI, gA_sR, gA_sQ, gA_sL, gA_sD, gQ_sI, gQ_sR, gQ_sA, gQ_sL, gQ_sD, gL_sI, gL_sR, gL_sA, gL_sQ, gL_sD]; assumption) | simp [kd_sI, kd_sR, kd_sA, kd_sQ, kd_sL, kd_sD, ln_sI, ln_sR, ln_sA, ln_sQ, ln_sL, ln_sD, gI_sR, gI_sA, gI_sQ, gI_sL, gI_sD, gR_sI, gR_sA, gR_sQ, gR_sL, gR_sD, gA_sI, gA_sR, gA_sQ, gA_sL, gA_sD, gQ_sI, gQ_sR, gQ_sA, gQ_sL, gQ_sD, gL_sI, gL_sR, gL_sA, gL_sQ, gL_sD, kd_nO, kd_nA, *]) (T := TX2) (N := 8) rfl (by first | assumption | omega) (by first | assumption | omega) (by first | assumption | omega) (Nat.le_of_ble_eq_true rfl) ?_
      refine c_traysAt (by omega) kp (fun H1 q1 hK1 hq1 k1 k2 k3 => ?_)
      have hV1 := hV.ks hK1 (fun _ _ h => h.elim)
      show AW mX11_go G d Qr Qx _ _ H1 22 _ _
      refine r_callF (As := []) (mc' := 1) (ms' := 2) dX11_go_22 k_X11_64_X12 rfl (by first | assumption | (simp only [kd_sI, kd_sR, kd_sA, kd_sQ, kd_sL, kd_sD, ln_sI, ln_sR, ln_sA, ln_sQ, ln_sL, ln_sD, gI_sR, gI_sA, gI_sQ, gI_sL, gI_sD, gR_sI, gR_sA, gR_sQ, gR_sL, gR_sD, gA_sI, gA_sR, gA_sQ, gA_sL, gA_sD, gQ_sI, gQ_sR, gQ_sA, gQ_sL, gQ_sD, gL_sI, gL_sR, gL_sA, gL_sQ, gL_sD]; assumption) | simp [kd_sI, kd_sR, kd_sA, kd_sQ, kd_sL, kd_sD, ln_sI, ln_sR, ln_sA, ln_sQ, ln_sL, ln_sD, gI_sR, gI_sA, gI_sQ, gI_sL, gI_sD, gR_sI, gR_sA, gR_sQ, gR_sL, gR_sD, gA_sI, gA_sR, gA_sQ, gA_sL, gA_sD, gQ_sI, gQ_sR, gQ_sA, gQ_sL, gQ_sD, gL_sI, gL_sR, gL_sA, gL_sQ, gL_sD, kd_nO, kd_nA, *]) (T := TX12) (N := 2) rfl (by first | assumption | omega) (by first | assumption | omega) (by first | assumption | omega) (Nat.le_of_ble_eq_true rfl) ?_
      refine c_x12Iterator (by omega) hV1 hT hn hp k1 k2 k3 (fun H2 it hK2 hit hI2 h56 => ?_)
      have K12 : Ks (fun _ => False) H H2 := hK1.tr hK2
      have hit0 : kd H it = 0 := hK1.fr hit
      show AW mX11_go G d Qr Qx _ _ H2 27 _ _
      refine r_astore_n (i := 3) dX11_go_27 rfl (Nat.le_of_ble_eq_true rfl) (by simp only [lset]; rfl) ?_
      have loop : ∀ (m i rc rs : Nat) (H2 : AH) (b2 : Best) (l4 l5 l6 : Option AV), n - i ≤ m → i ≤ n → (i < n → (ed g i pl).isSome = true) → 2 * (cR (kP g mask pl) i (n - i) * X) ≤ rc → 12 * (cR (kP g mask pl) i (n - i) * X) ≤ rs → Ks (SS S ra) H H2 → It1 H2 it q1 p pl → gI H2 56 it = nI i → SrR H2 S p ty to ra mask row b2 → scan (dfsStep (dfs g op to f) g op to pl mask row s) i (n - i) b2 = B → AW mX11_go G d Qr Qx rc rs H2 28 [some (vR (some S)), some (vI (nI pl)), some (vI s), some (vR (some it)), l4, l5, l6] [] := by
        intro m
        induction m with
        | zero =>
          intro i rc rs H2 b2 l4 l5 l6 hm1 hin hed hrc hrs hK hI h56 hS2 hsc
          have hii : i = n := by omega
          have ki := hI.1.1
          have hV2 := hV.ks hK (sk kS kra)
          refine r_aload_n (i := 3) dX11_go_28 rfl rfl ?_
          refine r_callF (As := []) (mc' := 0) (ms' := 0) dX11_go_29 k_X11_70_X13 rfl (by first | assumption | (simp only [kd_sI, kd_sR, kd_sA, kd_sQ, kd_sL, kd_sD, ln_sI, ln_sR, ln_sA, ln_sQ, ln_sL, ln_sD, gI_sR, gI_sA, gI_sQ, gI_sL, gI_sD, gR_sI, gR_sA, gR_sQ, gR_sL, gR_sD, gA_sI, gA_sR, gA_sQ, gA_sL, gA_sD, gQ_sI, gQ_sR, gQ_sA, gQ_sL, gQ_sD, gL_sI, gL_sR, gL_sA, gL_sQ, gL_sD]; assumption) | simp [kd_sI, kd_sR, kd_sA, kd_sQ, kd_sL, kd_sD, ln_sI, ln_sR, ln_sA, ln_sQ, ln_sL, ln_sD, gI_sR, gI_sA, gI_sQ, gI_sL, gI_sD, gR_sI, gR_sA, gR_sQ, gR_sL, gR_sD, gA_sI, gA_sR, gA_sQ, gA_sL, gA_sD, gQ_sI, gQ_sR, gQ_sA, gQ_sL, gQ_sD, gL_sI, gL_sR, gL_sA, gL_sQ, gL_sD, kd_nO, kd_nA, *]) (T := TX13) (N := 2) rfl (by first | assumption | omega) (by first | assumption | omega) (by first | assumption | omega) (Nat.le_of_ble_eq_true rfl) ?_
          refine c_x13HasNext hV2 hI h56 hin (by omega) ?_
          rw [if_pos hii]
          show AW mX11_go G d Qr Qx _ _ H2 34 _ _
          refine r_if_eq (tgt := 204) dX11_go_34 (by decide) (fun h34 => ?_) (fun h34 => ?_)
          · refine r_return dX11_go_204 rfl ?_
            rw [hii, Nat.sub_self] at hsc
            have e : b2 = B := hsc
            exact hQ H2 hK (by rw [← e]; exact hS2)
          · exact absurd rfl h34
        | succ m ih =>
          intro i rc rs H2 b2 l4 l5 l6 hm1 hin hed hrc hrs hK hI h56 hS2 hsc
          have ki := hI.1.1
          have hV2 := hV.ks hK (sk kS kra)
          by_cases hii : i = n
          · refine r_aload_n (i := 3) dX11_go_28 rfl rfl ?_
            refine r_callF (As := []) (mc' := 0) (ms' := 0) dX11_go_29 k_X11_70_X13 rfl (by first | assumption | (simp only [kd_sI, kd_sR, kd_sA, kd_sQ, kd_sL, kd_sD, ln_sI, ln_sR, ln_sA, ln_sQ, ln_sL, ln_sD, gI_sR, gI_sA, gI_sQ, gI_sL, gI_sD, gR_sI, gR_sA, gR_sQ, gR_sL, gR_sD, gA_sI, gA_sR, gA_sQ, gA_sL, gA_sD, gQ_sI, gQ_sR, gQ_sA, gQ_sL, gQ_sD, gL_sI, gL_sR, gL_sA, gL_sQ, gL_sD]; assumption) | simp [kd_sI, kd_sR, kd_sA, kd_sQ, kd_sL, kd_sD, ln_sI, ln_sR, ln_sA, ln_sQ, ln_sL, ln_sD, gI_sR, gI_sA, gI_sQ, gI_sL, gI_sD, gR_sI, gR_sA, gR_sQ, gR_sL, gR_sD, gA_sI, gA_sR, gA_sQ, gA_sL, gA_sD, gQ_sI, gQ_sR, gQ_sA, gQ_sL, gQ_sD, gL_sI, gL_sR, gL_sA, gL_sQ, gL_sD, kd_nO, kd_nA, *]) (T := TX13) (N := 2) rfl (by first | assumption | omega) (by first | assumption | omega) (by first | assumption | omega) (Nat.le_of_ble_eq_true rfl) ?_
            refine c_x13HasNext hV2 hI h56 hin (by omega) ?_
            rw [if_pos hii]
            show AW mX11_go G d Qr Qx _ _ H2 34 _ _
            refine r_if_eq (tgt := 204) dX11_go_34 (by decide) (fun h34 => ?_) (fun h34 => ?_)
            · refine r_return dX11_go_204 rfl ?_
              rw [hii, Nat.sub_self] at hsc
              have e : b2 = B := hsc
              exact hQ H2 hK (by rw [← e]; exact hS2)
            · exact absurd rfl h34
          · have hil : i < n := by omega
            obtain ⟨o, he⟩ := Option.isSome_iff_exists.mp (hed hil)
            have ho := ed_lt hT (by omega) he
            obtain ⟨bm1, bm2, bm3, bm4, bm5⟩ := bm_all mask hm o ho
            obtain ⟨i', hi'⟩ : ∃ i', nxF g pl (i + 1) (n - (i + 1)) = i' := ⟨_, rfl⟩
            obtain ⟨nx1, nx2, nx3⟩ := nxF_le (g := g) (pl := pl) (n - (i + 1)) (i + 1)
            rw [hi'] at nx1 nx2 nx3
            have hsc2 : scan (dfsStep (dfs g op to f) g op to pl mask row s) i' (n - i') (dfsStep (dfs g op to f) g op to pl mask row s i b2) = B := by
              rw [← hsc, show n - i = (n - (i + 1)) + 1 by omega]
              show _ = scan _ (i + 1) (n - (i + 1)) (dfsStep _ g op to pl mask row s i b2)
              rw [scan_nx (n - (i + 1)) (i + 1), hi', show i + 1 + (n - (i + 1)) - i' = n - i' by omega]
            have hcR : cR (kP g mask pl) i (n - i) = (if kP g mask pl i then 1 else 0) + cR (kP g mask pl) (i + 1) (n - (i + 1)) := by rw [show n - i = (n - (i + 1)) + 1 by omega]; rfl
            have hcR2 : cR (kP g mask pl) i' (n - i') ≤ cR (kP g mask pl) (i + 1) (n - (i + 1)) := by
              have := cR_sub (P := kP g mask pl) (i' - (i + 1)) (n - i') (i + 1)
              rw [show i + 1 + (i' - (i + 1)) = i' by omega, show i' - (i + 1) + (n - i') = n - (i + 1) by omega] at this
              exact this
            have hcRX : cR (kP g mask pl) i' (n - i') * X ≤ cR (kP g mask pl) (i + 1) (n - (i + 1)) * X := Nat.mul_le_mul_right X hcR2
            refine r_aload_n (i := 3) dX11_go_28 rfl rfl ?_
            refine r_callF (As := []) (mc' := 0) (ms' := 0) dX11_go_29 k_X11_70_X13 rfl (by first | assumption | (simp only [kd_sI, kd_sR, kd_sA, kd_sQ, kd_sL, kd_sD, ln_sI, ln_sR, ln_sA, ln_sQ, ln_sL, ln_sD, gI_sR, gI_sA, gI_sQ, gI_sL, gI_sD, gR_sI, gR_sA, gR_sQ, gR_sL, gR_sD, gA_sI, gA_sR, gA_sQ, gA_sL, gA_sD, gQ_sI, gQ_sR, gQ_sA, gQ_sL, gQ_sD, gL_sI, gL_sR, gL_sA, gL_sQ, gL_sD]; assumption) | simp [kd_sI, kd_sR, kd_sA, kd_sQ, kd_sL, kd_sD, ln_sI, ln_sR, ln_sA, ln_sQ, ln_sL, ln_sD, gI_sR, gI_sA, gI_sQ, gI_sL, gI_sD, gR_sI, gR_sA, gR_sQ, gR_sL, gR_sD, gA_sI, gA_sR, gA_sQ, gA_sL, gA_sD, gQ_sI, gQ_sR, gQ_sA, gQ_sL, gQ_sD, gL_sI, gL_sR, gL_sA, gL_sQ, gL_sD, kd_nO, kd_nA, *]) (T := TX13) (N := 2) rfl (by first | assumption | omega) (by first | assumption | omega) (by first | assumption | omega) (Nat.le_of_ble_eq_true rfl) ?_
            refine c_x13HasNext hV2 hI h56 hin (by omega) ?_
            rw [if_neg hii]
            show AW mX11_go G d Qr Qx _ _ H2 34 _ _
            refine r_if_eq (tgt := 204) dX11_go_34 (by decide) (fun h34 => ?_) (fun h34 => ?_)
            · exact absurd h34 (by decide)
            · refine r_aload_n (i := 3) dX11_go_37 rfl rfl ?_
              refine r_callF (As := []) (mc' := 0) (ms' := 0) dX11_go_38 k_X11_76_X13 rfl (by first | assumption | (simp only [kd_sI, kd_sR, kd_sA, kd_sQ, kd_sL, kd_sD, ln_sI, ln_sR, ln_sA, ln_sQ, ln_sL, ln_sD, gI_sR, gI_sA, gI_sQ, gI_sL, gI_sD, gR_sI, gR_sA, gR_sQ, gR_sL, gR_sD, gA_sI, gA_sR, gA_sQ, gA_sL, gA_sD, gQ_sI, gQ_sR, gQ_sA, gQ_sL, gQ_sD, gL_sI, gL_sR, gL_sA, gL_sQ, gL_sD]; assumption) | simp [kd_sI, kd_sR, kd_sA, kd_sQ, kd_sL, kd_sD, ln_sI, ln_sR, ln_sA, ln_sQ, ln_sL, ln_sD, gI_sR, gI_sA, gI_sQ, gI_sL, gI_sD, gR_sI, gR_sA, gR_sQ, gR_sL, gR_sD, gA_sI, gA_sR, gA_sQ, gA_sL, gA_sD, gQ_sI, gQ_sR, gQ_sA, gQ_sL, gQ_sD, gL_sI, gL_sR, gL_sA, gL_sQ, gL_sD, kd_nO, kd_nA, *]) (T := TX13) (N := 2) rfl (by first | assumption | omega) (by first | assumption | omega) (by first | assumption | omega) (Nat.le_of_ble_eq_true rfl) ?_
              refine c_x13Next (by omega) hV2 hT hn hp hI h56 hil ?_
              rw [hi']
              refine AW.name (fun H3 hH3 => ?_)
              have K23 : Ks (fun a => a = it) H2 H3 := by rw [hH3]; exact (Ks.rf (S := fun a => a = it)).sI (fun _ => rfl)
              have hK3 : Ks (SS S ra) H H3 := hK.tr2 K23 (fun a ha e => by rw [e] at ha; exact absurd hit0 ha)
              have kS2 : kd H2 S = 11 := hS2.1.1
              have kra2 : kd H2 ra = 1047 := hS2.2.1.1
              have nitS : ¬ S = it := fun e => by rw [e, ki] at kS2; exact absurd kS2 (by decide)
              have nitra : ¬ ra = it := fun e => by rw [e, ki] at kra2; exact absurd kra2 (by decide)
              have hS3 := hS2.ks K23 nitS nitra (fun a ha e => by rw [e, ki] at ha; exact absurd ha (by decide))
              have kq2 := hI.2.1
              have hI3 : It1 H3 it q1 p pl := hI.ks K23 (fun e => by rw [e, ki] at kq2; exact absurd kq2 (by decide)) (by rw [hH3]; rfl)
              have i56 : gI H3 56 it = nI i' := by rw [hH3]; exact gI_sIs
              have hV3 := hV.ks hK3 (sk kS kra)
              have hO3 := hO.ks hK3 (sk kS kra)
              obtain ⟨⟨p1, p2, p3⟩, l1, -, l3⟩ := hV3
              have hTi := l3 i hil
              have kti := hTi.1
              have krL := l1.1
              have hS3' := hS3
              obtain ⟨⟨s1, s2, s3, s4, s5⟩, ⟨s6, s7⟩, s8, s9, s10, s11⟩ := hS3
              have hj9 : i + 128 < 256 := by omega
              show AW mX11_go G d Qr Qx _ _ H3 43 _ [vR (some (ivO G i))]
              refine r_castI dX11_go_43 (by first | assumption | omega) (by first | assumption | exact gI_sIs | exact gR_sRs | with_reducible rfl | (simp only [kd_sI, kd_sR, kd_sA, kd_sQ, kd_sL, kd_sD, ln_sI, ln_sR, ln_sA, ln_sQ, ln_sL, ln_sD, gI_sR, gI_sA, gI_sQ, gI_sL, gI_sD, gR_sI, gR_sA, gR_sQ, gR_sL, gR_sD, gA_sI, gA_sR, gA_sQ, gA_sL, gA_sD, gQ_sI, gQ_sR, gQ_sA, gQ_sL, gQ_sD, gL_sI, gL_sR, gL_sA, gL_sQ, gL_sD]; first | done | assumption | with_reducible rfl) | rfl) q1992 (Or.inl rfl) ?_
              refine r_callVI (As := []) (mc' := 0) (ms' := 0) (j9 := i + 128) dX11_go_46 k_X11_79 rfl rfl (by first | assumption | omega) rfl (by first | assumption | omega) (by first | assumption | omega) (by first | assumption | omega) (Nat.le_of_ble_eq_true rfl) ?_
              refine s_intValue (Or.inl ⟨i + 128, by omega, rfl, vb_c_eq i (by omega)⟩) ?_
              show AW mX11_go G d Qr Qx _ _ H3 49 _ _
              refine r_istore dX11_go_49 (Nat.le_of_ble_eq_true rfl) (by simp only [lset]; rfl) ?_
              refine r_aload_n (i := 0) dX11_go_51 rfl rfl ?_
              refine r_getR dX11_go_52 fR_X11_3 (by first | assumption | (simp only [kd_sI, kd_sR, kd_sA, kd_sQ, kd_sL, kd_sD, ln_sI, ln_sR, ln_sA, ln_sQ, ln_sL, ln_sD, gI_sR, gI_sA, gI_sQ, gI_sL, gI_sD, gR_sI, gR_sA, gR_sQ, gR_sL, gR_sD, gA_sI, gA_sR, gA_sQ, gA_sL, gA_sD, gQ_sI, gQ_sR, gQ_sA, gQ_sL, gQ_sD, gL_sI, gL_sR, gL_sA, gL_sQ, gL_sD]; assumption) | simp [kd_sI, kd_sR, kd_sA, kd_sQ, kd_sL, kd_sD, ln_sI, ln_sR, ln_sA, ln_sQ, ln_sL, ln_sD, gI_sR, gI_sA, gI_sQ, gI_sL, gI_sD, gR_sI, gR_sA, gR_sQ, gR_sL, gR_sD, gA_sI, gA_sR, gA_sQ, gA_sL, gA_sD, gQ_sI, gQ_sR, gQ_sA, gQ_sL, gQ_sD, gL_sI, gL_sR, gL_sA, gL_sQ, gL_sD, kd_nO, kd_nA, *]) (by first | assumption | exact gI_sIs | exact gR_sRs | with_reducible rfl | (simp only [kd_sI, kd_sR, kd_sA, kd_sQ, kd_sL, kd_sD, ln_sI, ln_sR, ln_sA, ln_sQ, ln_sL, ln_sD, gI_sR, gI_sA, gI_sQ, gI_sL, gI_sD, gR_sI, gR_sA, gR_sQ, gR_sL, gR_sD, gA_sI, gA_sR, gA_sQ, gA_sL, gA_sD, gQ_sI, gQ_sR, gQ_sA, gQ_sL, gQ_sD, gL_sI, gL_sR, gL_sA, gL_sQ, gL_sD]; first | done | assumption | with_reducible rfl) | rfl) ?_
              refine r_getR dX11_go_55 fR_X11_83 (by first | assumption | (simp only [kd_sI, kd_sR, kd_sA, kd_sQ, kd_sL, kd_sD, ln_sI, ln_sR, ln_sA, ln_sQ, ln_sL, ln_sD, gI_sR, gI_sA, gI_sQ, gI_sL, gI_sD, gR_sI, gR_sA, gR_sQ, gR_sL, gR_sD, gA_sI, gA_sR, gA_sQ, gA_sL, gA_sD, gQ_sI, gQ_sR, gQ_sA, gQ_sL, gQ_sD, gL_sI, gL_sR, gL_sA, gL_sQ, gL_sD]; assumption) | simp [kd_sI, kd_sR, kd_sA, kd_sQ, kd_sL, kd_sD, ln_sI, ln_sR, ln_sA, ln_sQ, ln_sL, ln_sD, gI_sR, gI_sA, gI_sQ, gI_sL, gI_sD, gR_sI, gR_sA, gR_sQ, gR_sL, gR_sD, gA_sI, gA_sR, gA_sQ, gA_sL, gA_sD, gQ_sI, gQ_sR, gQ_sA, gQ_sL, gQ_sD, gL_sI, gL_sR, gL_sA, gL_sQ, gL_sD, kd_nO, kd_nA, *]) (by first | assumption | exact gI_sIs | exact gR_sRs | with_reducible rfl | (simp only [kd_sI, kd_sR, kd_sA, kd_sQ, kd_sL, kd_sD, ln_sI, ln_sR, ln_sA, ln_sQ, ln_sL, ln_sD, gI_sR, gI_sA, gI_sQ, gI_sL, gI_sD, gR_sI, gR_sA, gR_sQ, gR_sL, gR_sD, gA_sI, gA_sR, gA_sQ, gA_sL, gA_sD, gQ_sI, gQ_sR, gQ_sA, gQ_sL, gQ_sD, gL_sI, gL_sR, gL_sA, gL_sQ, gL_sD]; first | done | assumption | with_reducible rfl) | rfl) ?_
              refine r_iload dX11_go_58 rfl ?_
              refine r_callV (As := [_]) (mc' := 0) (ms' := 0) dX11_go_60 k_X11_87 rfl (by first | assumption | (simp only [kd_sI, kd_sR, kd_sA, kd_sQ, kd_sL, kd_sD, ln_sI, ln_sR, ln_sA, ln_sQ, ln_sL, ln_sD, gI_sR, gI_sA, gI_sQ, gI_sL, gI_sD, gR_sI, gR_sA, gR_sQ, gR_sL, gR_sD, gA_sI, gA_sR, gA_sQ, gA_sL, gA_sD, gQ_sI, gQ_sR, gQ_sA, gQ_sL, gQ_sD, gL_sI, gL_sR, gL_sA, gL_sQ, gL_sD]; assumption) | simp [kd_sI, kd_sR, kd_sA, kd_sQ, kd_sL, kd_sD, ln_sI, ln_sR, ln_sA, ln_sQ, ln_sL, ln_sD, gI_sR, gI_sA, gI_sQ, gI_sL, gI_sD, gR_sI, gR_sA, gR_sQ, gR_sL, gR_sD, gA_sI, gA_sR, gA_sQ, gA_sL, gA_sD, gQ_sI, gQ_sR, gQ_sA, gQ_sL, gQ_sD, gL_sI, gL_sR, gL_sA, gL_sQ, gL_sD, kd_nO, kd_nA, *]) (T := TJ2) (N := 3) rfl (by first | assumption | omega) (by first | assumption | omega) (by first | assumption | omega) (Nat.le_of_ble_eq_true rfl) ?_
              refine s_get (by omega) l1 hil (by omega) ?_
              show AW mX11_go G d Qr Qx _ _ H3 63 _ _
              refine r_cast dX11_go_63 (by first | assumption | (simp only [kd_sI, kd_sR, kd_sA, kd_sQ, kd_sL, kd_sD, ln_sI, ln_sR, ln_sA, ln_sQ, ln_sL, ln_sD, gI_sR, gI_sA, gI_sQ, gI_sL, gI_sD, gR_sI, gR_sA, gR_sQ, gR_sL, gR_sD, gA_sI, gA_sR, gA_sQ, gA_sL, gA_sD, gQ_sI, gQ_sR, gQ_sA, gQ_sL, gQ_sD, gL_sI, gL_sR, gL_sA, gL_sQ, gL_sD]; assumption) | simp [kd_sI, kd_sR, kd_sA, kd_sQ, kd_sL, kd_sD, ln_sI, ln_sR, ln_sA, ln_sQ, ln_sL, ln_sD, gI_sR, gI_sA, gI_sQ, gI_sL, gI_sD, gR_sI, gR_sA, gR_sQ, gR_sL, gR_sD, gA_sI, gA_sR, gA_sQ, gA_sL, gA_sD, gQ_sI, gQ_sR, gQ_sA, gQ_sL, gQ_sD, gL_sI, gL_sR, gL_sA, gL_sQ, gL_sD, kd_nO, kd_nA, *]) (T := TX4) (N := 7) rfl q1995 (Or.inl rfl) ?_
              refine r_iload_n (i := 1) dX11_go_66 rfl rfl ?_
              refine r_callV (As := [_]) (mc' := 0) (ms' := 0) dX11_go_67 k_X11_95 rfl (by first | assumption | (simp only [kd_sI, kd_sR, kd_sA, kd_sQ, kd_sL, kd_sD, ln_sI, ln_sR, ln_sA, ln_sQ, ln_sL, ln_sD, gI_sR, gI_sA, gI_sQ, gI_sL, gI_sD, gR_sI, gR_sA, gR_sQ, gR_sL, gR_sD, gA_sI, gA_sR, gA_sQ, gA_sL, gA_sD, gQ_sI, gQ_sR, gQ_sA, gQ_sL, gQ_sD, gL_sI, gL_sR, gL_sA, gL_sQ, gL_sD]; assumption) | simp [kd_sI, kd_sR, kd_sA, kd_sQ, kd_sL, kd_sD, ln_sI, ln_sR, ln_sA, ln_sQ, ln_sL, ln_sD, gI_sR, gI_sA, gI_sQ, gI_sL, gI_sD, gR_sI, gR_sA, gR_sQ, gR_sL, gR_sD, gA_sI, gA_sR, gA_sQ, gA_sL, gA_sD, gQ_sI, gQ_sR, gQ_sA, gQ_sL, gQ_sD, gL_sI, gL_sR, gL_sA, gL_sQ, gL_sD, kd_nO, kd_nA, *]) (T := TX4) (N := 7) rfl (by first | assumption | omega) (by first | assumption | omega) (by first | assumption | omega) (Nat.le_of_ble_eq_true rfl) ?_
              refine c_otherEnd hTi ?_
              rw [tvOther_ed hT (by omega) hp, he]
              show AW mX11_go G d Qr Qx _ _ H3 70 _ [vI (nI o)]
              refine r_istore dX11_go_70 (Nat.le_of_ble_eq_true rfl) (by simp only [lset]; rfl) ?_
              refine r_aload_n (i := 0) dX11_go_72 rfl rfl ?_
              refine r_getI dX11_go_73 fR_X11_33 (by first | assumption | (simp only [kd_sI, kd_sR, kd_sA, kd_sQ, kd_sL, kd_sD, ln_sI, ln_sR, ln_sA, ln_sQ, ln_sL, ln_sD, gI_sR, gI_sA, gI_sQ, gI_sL, gI_sD, gR_sI, gR_sA, gR_sQ, gR_sL, gR_sD, gA_sI, gA_sR, gA_sQ, gA_sL, gA_sD, gQ_sI, gQ_sR, gQ_sA, gQ_sL, gQ_sD, gL_sI, gL_sR, gL_sA, gL_sQ, gL_sD]; assumption) | simp [kd_sI, kd_sR, kd_sA, kd_sQ, kd_sL, kd_sD, ln_sI, ln_sR, ln_sA, ln_sQ, ln_sL, ln_sD, gI_sR, gI_sA, gI_sQ, gI_sL, gI_sD, gR_sI, gR_sA, gR_sQ, gR_sL, gR_sD, gA_sI, gA_sR, gA_sQ, gA_sL, gA_sD, gQ_sI, gQ_sR, gQ_sA, gQ_sL, gQ_sD, gL_sI, gL_sR, gL_sA, gL_sQ, gL_sD, kd_nO, kd_nA, *]) (by first | assumption | exact gI_sIs | exact gR_sRs | with_reducible rfl | (simp only [kd_sI, kd_sR, kd_sA, kd_sQ, kd_sL, kd_sD, ln_sI, ln_sR, ln_sA, ln_sQ, ln_sL, ln_sD, gI_sR, gI_sA, gI_sQ, gI_sL, gI_sD, gR_sI, gR_sA, gR_sQ, gR_sL, gR_sD, gA_sI, gA_sR, gA_sQ, gA_sL, gA_sD, gQ_sI, gQ_sR, gQ_sA, gQ_sL, gQ_sD, gL_sI, gL_sR, gL_sA, gL_sQ, gL_sD]; first | done | assumption | with_reducible rfl) | rfl) ?_
              refine r_iload dX11_go_76 rfl ?_
              refine r_ishr dX11_go_78 ?_
              refine r_iconst (v := nI 1) dX11_go_79 (by decide) ?_
              refine r_iand dX11_go_80 ?_
              rw [bm1]
              -- the next one
              have step : ∀ (rc rs : Nat) (H4 : AH) (b4 : Best) (l4 l5 l6 : Option AV), 2 * (cR (kP g mask pl) (i + 1) (n - (i + 1)) * X) ≤ rc → 12 * (cR (kP g mask pl) (i + 1) (n - (i + 1)) * X) ≤ rs → Ks (SS S ra) H3 H4 → SrR H4 S p ty to ra mask row b4 → dfsStep (dfs g op to f) g op to pl mask row s i b2 = b4 → AW mX11_go G d Qr Qx rc rs H4 201 [some (vR (some S)), some (vI (nI pl)), some (vI s), some (vR (some it)), l4, l5, l6] [] := by
                intro rc rs H4 b4 l4 l5 l6 hrc4 hrs4 hK4 hS4 hb4
                have ki3 := hI3.1.1
                have nSit : ¬ SS S ra it := fun q => q.elim (fun e => nitS e.symm) (fun e => nitra e.symm)
                have eit := hK4.at (a := it) (by rw [ki3]; decide) nSit
                have kq3 := hI3.2.1
                have nSq1 : ¬ SS S ra q1 := fun q => q.elim (fun e => by rw [e, s1] at kq3; exact absurd kq3 (by decide)) (fun e => by rw [e, s6] at kq3; exact absurd kq3 (by decide))
                refine r_goto (tgt := 28) dX11_go_201 (by decide) ?_
                rw [hb4] at hsc2
                exact ih i' _ _ H4 b4 _ _ _ (by omega) (by omega) (fun h => nx3 (by omega)) (by omega) (by omega) (hK3.tr hK4) (hI3.ks hK4 nSq1 (at_gR eit 57)) (by rw [at_gI eit]; exact i56) hS4 hsc2
              have hdS : dfsStep (dfs g op to f) g op to pl mask row s i b2 = if mask.testBit o || !op i then b2 else if o = to then bUp (row ++ [i]) (s + g (43 + 5 * i)) b2 else dfs g op to f o (mask ||| 2 ^ o) (row ++ [i]) (s + g (43 + 5 * i)) b2 := by
                unfold dfsStep
                rw [he]
              cases hbo : mask.testBit o with
              | true =>
                rw [hbo, Bool.true_or, if_pos rfl] at hdS
                have hkp : kP g mask pl i = false := by unfold kP; rw [he]; simp [hbo]
                rw [hkp, if_neg (by decide), Nat.zero_add] at hcR
                rw [hcR] at hrc hrs
                refine r_if_ne (tgt := 88) dX11_go_81 (by decide) (fun h81 => ?_) (fun h81 => ?_)
                · refine r_iconst (v := nI 0) dX11_go_88 (by decide) ?_
                  refine r_istore dX11_go_89 (Nat.le_of_ble_eq_true rfl) (by simp only [lset]; rfl) ?_
                  refine r_iload dX11_go_91 rfl ?_
                  refine r_if_eq (tgt := 201) dX11_go_93 (by decide) (fun h93 => ?_) (fun h93 => ?_)
                  · exact step _ _ H3 b2 _ _ _ (by omega) (by omega) Ks.rf hS3' hdS
                  · exact absurd rfl h93
                · exact absurd (show ¬ nI 1 = 0 by decide) (by simpa using h81)
              | false =>
                rw [hbo, Bool.false_or] at hdS
                obtain ⟨bm3a, bm3b⟩ := bm3 hbo
                have hkp : kP g mask pl i = true := by unfold kP; rw [he]; simp [hbo]
                rw [hkp, if_pos rfl] at hcR
                have hcX : cR (kP g mask pl) i (n - i) * X = X + cR (kP g mask pl) (i + 1) (n - (i + 1)) * X := by rw [hcR, Nat.add_mul, Nat.one_mul]
                rw [hcX] at hrc hrs
                obtain ⟨RX, hRX⟩ : ∃ RX, cR (kP g mask pl) (i + 1) (n - (i + 1)) * X = RX := ⟨_, rfl⟩
                rw [hRX] at hrc hrs step
                have hlen9 : row.length < 7 := by omega
                have hlen12 : row.length < 12 := by omega
                have hch := room_child hT hn hm ho hbo
                have hpow : 2 ^ (cR (kP g (mask ||| 2 ^ o) o) 0 n + cR (lP g (mask ||| 2 ^ o)) 0 n) ≤ X := by rw [← hX]; exact Nat.pow_le_pow_right (by decide) hch
                have hX1 : 1 ≤ X := by rw [← hX]; exact Nat.one_le_two_pow
                obtain ⟨Z, hZ⟩ : ∃ Z, 2 ^ (cR (kP g (mask ||| 2 ^ o) o) 0 n + cR (lP g (mask ||| 2 ^ o)) 0 n) = Z := ⟨_, rfl⟩
                rw [hZ] at hpow
                obtain ⟨tl1, tl2⟩ := hl i hil
                have cont : op i = true → ∀ rc rs, 2 * (X + RX) ≤ rc → 12 * (X + RX) ≤ rs → AW mX11_go G d Qr Qx rc rs H3 119 [some (vR (some S)), some (vI (nI pl)), some (vI s), some (vR (some it)), some (vI (nI i)), some (vI (nI o)), some (vI (nI 1))] [] := by
                  intro hop rc rs hrc hrs
                  rw [hop, Bool.not_true, if_neg (by decide)] at hdS
                  refine r_aload_n (i := 0) dX11_go_119 rfl rfl ?_
                  refine r_getR dX11_go_120 fR_X11_15 (by first | assumption | (simp only [kd_sI, kd_sR, kd_sA, kd_sQ, kd_sL, kd_sD, ln_sI, ln_sR, ln_sA, ln_sQ, ln_sL, ln_sD, gI_sR, gI_sA, gI_sQ, gI_sL, gI_sD, gR_sI, gR_sA, gR_sQ, gR_sL, gR_sD, gA_sI, gA_sR, gA_sQ, gA_sL, gA_sD, gQ_sI, gQ_sR, gQ_sA, gQ_sL, gQ_sD, gL_sI, gL_sR, gL_sA, gL_sQ, gL_sD]; assumption) | simp [kd_sI, kd_sR, kd_sA, kd_sQ, kd_sL, kd_sD, ln_sI, ln_sR, ln_sA, ln_sQ, ln_sL, ln_sD, gI_sR, gI_sA, gI_sQ, gI_sL, gI_sD, gR_sI, gR_sA, gR_sQ, gR_sL, gR_sD, gA_sI, gA_sR, gA_sQ, gA_sL, gA_sD, gQ_sI, gQ_sR, gQ_sA, gQ_sL, gQ_sD, gL_sI, gL_sR, gL_sA, gL_sQ, gL_sD, kd_nO, kd_nA, *]) (by first | assumption | exact gI_sIs | exact gR_sRs | with_reducible rfl | (simp only [kd_sI, kd_sR, kd_sA, kd_sQ, kd_sL, kd_sD, ln_sI, ln_sR, ln_sA, ln_sQ, ln_sL, ln_sD, gI_sR, gI_sA, gI_sQ, gI_sL, gI_sD, gR_sI, gR_sA, gR_sQ, gR_sL, gR_sD, gA_sI, gA_sR, gA_sQ, gA_sL, gA_sD, gQ_sI, gQ_sR, gQ_sA, gQ_sL, gQ_sD, gL_sI, gL_sR, gL_sA, gL_sQ, gL_sD]; first | done | assumption | with_reducible rfl) | rfl) ?_
                  refine r_aload_n (i := 0) dX11_go_123 rfl rfl ?_
                  refine r_dup dX11_go_124 rfl ?_
                  refine r_getI dX11_go_125 fR_X11_43 (by first | assumption | (simp only [kd_sI, kd_sR, kd_sA, kd_sQ, kd_sL, kd_sD, ln_sI, ln_sR, ln_sA, ln_sQ, ln_sL, ln_sD, gI_sR, gI_sA, gI_sQ, gI_sL, gI_sD, gR_sI, gR_sA, gR_sQ, gR_sL, gR_sD, gA_sI, gA_sR, gA_sQ, gA_sL, gA_sD, gQ_sI, gQ_sR, gQ_sA, gQ_sL, gQ_sD, gL_sI, gL_sR, gL_sA, gL_sQ, gL_sD]; assumption) | simp [kd_sI, kd_sR, kd_sA, kd_sQ, kd_sL, kd_sD, ln_sI, ln_sR, ln_sA, ln_sQ, ln_sL, ln_sD, gI_sR, gI_sA, gI_sQ, gI_sL, gI_sD, gR_sI, gR_sA, gR_sQ, gR_sL, gR_sD, gA_sI, gA_sR, gA_sQ, gA_sL, gA_sD, gQ_sI, gQ_sR, gQ_sA, gQ_sL, gQ_sD, gL_sI, gL_sR, gL_sA, gL_sQ, gL_sD, kd_nO, kd_nA, *]) (by first | assumption | exact gI_sIs | exact gR_sRs | with_reducible rfl | (simp only [kd_sI, kd_sR, kd_sA, kd_sQ, kd_sL, kd_sD, ln_sI, ln_sR, ln_sA, ln_sQ, ln_sL, ln_sD, gI_sR, gI_sA, gI_sQ, gI_sL, gI_sD, gR_sI, gR_sA, gR_sQ, gR_sL, gR_sD, gA_sI, gA_sR, gA_sQ, gA_sL, gA_sD, gQ_sI, gQ_sR, gQ_sA, gQ_sL, gQ_sD, gL_sI, gL_sR, gL_sA, gL_sQ, gL_sD]; first | done | assumption | with_reducible rfl) | rfl) ?_
                  refine r_dup_x1 dX11_go_128 rfl rfl ?_
                  refine r_iconst (v := nI 1) dX11_go_129 (by decide) ?_
                  refine r_iadd dX11_go_130 ?_
                  try simp only [nI_add]
                  refine r_putI dX11_go_131 fG_X11_43 (fun _ => by first | rfl | contradiction) (by first | assumption | (simp only [kd_sI, kd_sR, kd_sA, kd_sQ, kd_sL, kd_sD, ln_sI, ln_sR, ln_sA, ln_sQ, ln_sL, ln_sD, gI_sR, gI_sA, gI_sQ, gI_sL, gI_sD, gR_sI, gR_sA, gR_sQ, gR_sL, gR_sD, gA_sI, gA_sR, gA_sQ, gA_sL, gA_sD, gQ_sI, gQ_sR, gQ_sA, gQ_sL, gQ_sD, gL_sI, gL_sR, gL_sA, gL_sQ, gL_sD]; assumption) | simp [kd_sI, kd_sR, kd_sA, kd_sQ, kd_sL, kd_sD, ln_sI, ln_sR, ln_sA, ln_sQ, ln_sL, ln_sD, gI_sR, gI_sA, gI_sQ, gI_sL, gI_sD, gR_sI, gR_sA, gR_sQ, gR_sL, gR_sD, gA_sI, gA_sR, gA_sQ, gA_sL, gA_sD, gQ_sI, gQ_sR, gQ_sA, gQ_sL, gQ_sD, gL_sI, gL_sR, gL_sA, gL_sQ, gL_sD, kd_nO, kd_nA, *]) (by first | rfl | assumption) (by first | rfl | assumption) ?_
                  refine r_iload dX11_go_134 rfl ?_
                  refine r_iast dX11_go_136 (by first | assumption | (simp only [kd_sI, kd_sR, kd_sA, kd_sQ, kd_sL, kd_sD, ln_sI, ln_sR, ln_sA, ln_sQ, ln_sL, ln_sD, gI_sR, gI_sA, gI_sQ, gI_sL, gI_sD, gR_sI, gR_sA, gR_sQ, gR_sL, gR_sD, gA_sI, gA_sR, gA_sQ, gA_sL, gA_sD, gQ_sI, gQ_sR, gQ_sA, gQ_sL, gQ_sD, gL_sI, gL_sR, gL_sA, gL_sQ, gL_sD]; assumption) | simp [kd_sI, kd_sR, kd_sA, kd_sQ, kd_sL, kd_sD, ln_sI, ln_sR, ln_sA, ln_sQ, ln_sL, ln_sD, gI_sR, gI_sA, gI_sQ, gI_sL, gI_sD, gR_sI, gR_sA, gR_sQ, gR_sL, gR_sD, gA_sI, gA_sR, gA_sQ, gA_sL, gA_sD, gQ_sI, gQ_sR, gQ_sA, gQ_sL, gQ_sD, gL_sI, gL_sR, gL_sA, gL_sQ, gL_sD, kd_nO, kd_nA, *]) (by first | decide | assumption) (by first | assumption | exact gI_sIs | exact gR_sRs | with_reducible rfl | (simp only [kd_sI, kd_sR, kd_sA, kd_sQ, kd_sL, kd_sD, ln_sI, ln_sR, ln_sA, ln_sQ, ln_sL, ln_sD, gI_sR, gI_sA, gI_sQ, gI_sL, gI_sD, gR_sI, gR_sA, gR_sQ, gR_sL, gR_sD, gA_sI, gA_sR, gA_sQ, gA_sL, gA_sD, gQ_sI, gQ_sR, gQ_sA, gQ_sL, gQ_sD, gL_sI, gL_sR, gL_sA, gL_sQ, gL_sD]; first | done | assumption | with_reducible rfl) | rfl) (by first | with_reducible rfl | assumption | (simp only [nI_add, pk_mul, nI_1]; with_reducible rfl)) (by first | assumption | omega) (by first | assumption | omega) ?_
                  refine AW.name (fun H5 hH5 => ?_)
                  have K35 : Ks (SS S ra) H3 H5 := by rw [hH5]; exact (Ks.rf.sI (fun _ => Or.inl rfl)).sA (fun _ => Or.inr rfl)
                  have nSra : S ≠ ra := fun e => by rw [← e, s1] at s6; exact absurd s6 (by decide)
                  have t1 : kd H5 S = 11 := by rw [hH5]; exact s1
                  have t49 : gI H5 49 S = nI mask := by rw [hH5]; show gI (sI H3 48 S (nI (row.length + 1))) 49 S = _; rw [gI_sIn (by decide)]; exact s9
                  refine r_aload_n (i := 0) dX11_go_137 rfl rfl ?_
                  refine r_dup dX11_go_138 rfl ?_
                  refine r_getI dX11_go_139 fR_X11_33 (by first | assumption | (simp only [kd_sI, kd_sR, kd_sA, kd_sQ, kd_sL, kd_sD, ln_sI, ln_sR, ln_sA, ln_sQ, ln_sL, ln_sD, gI_sR, gI_sA, gI_sQ, gI_sL, gI_sD, gR_sI, gR_sA, gR_sQ, gR_sL, gR_sD, gA_sI, gA_sR, gA_sQ, gA_sL, gA_sD, gQ_sI, gQ_sR, gQ_sA, gQ_sL, gQ_sD, gL_sI, gL_sR, gL_sA, gL_sQ, gL_sD]; assumption) | simp [kd_sI, kd_sR, kd_sA, kd_sQ, kd_sL, kd_sD, ln_sI, ln_sR, ln_sA, ln_sQ, ln_sL, ln_sD, gI_sR, gI_sA, gI_sQ, gI_sL, gI_sD, gR_sI, gR_sA, gR_sQ, gR_sL, gR_sD, gA_sI, gA_sR, gA_sQ, gA_sL, gA_sD, gQ_sI, gQ_sR, gQ_sA, gQ_sL, gQ_sD, gL_sI, gL_sR, gL_sA, gL_sQ, gL_sD, kd_nO, kd_nA, *]) (by first | assumption | exact gI_sIs | exact gR_sRs | with_reducible rfl | (simp only [kd_sI, kd_sR, kd_sA, kd_sQ, kd_sL, kd_sD, ln_sI, ln_sR, ln_sA, ln_sQ, ln_sL, ln_sD, gI_sR, gI_sA, gI_sQ, gI_sL, gI_sD, gR_sI, gR_sA, gR_sQ, gR_sL, gR_sD, gA_sI, gA_sR, gA_sQ, gA_sL, gA_sD, gQ_sI, gQ_sR, gQ_sA, gQ_sL, gQ_sD, gL_sI, gL_sR, gL_sA, gL_sQ, gL_sD]; first | done | assumption | with_reducible rfl) | rfl) ?_
                  refine r_iconst (v := nI 1) dX11_go_142 (by decide) ?_
                  refine r_iload dX11_go_143 rfl ?_
                  refine r_ishl dX11_go_145 ?_
                  refine r_ior dX11_go_146 ?_
                  rw [bm2]
                  refine r_putI dX11_go_147 fG_X11_33 (fun _ => by first | rfl | contradiction) (by first | assumption | (simp only [kd_sI, kd_sR, kd_sA, kd_sQ, kd_sL, kd_sD, ln_sI, ln_sR, ln_sA, ln_sQ, ln_sL, ln_sD, gI_sR, gI_sA, gI_sQ, gI_sL, gI_sD, gR_sI, gR_sA, gR_sQ, gR_sL, gR_sD, gA_sI, gA_sR, gA_sQ, gA_sL, gA_sD, gQ_sI, gQ_sR, gQ_sA, gQ_sL, gQ_sD, gL_sI, gL_sR, gL_sA, gL_sQ, gL_sD]; assumption) | simp [kd_sI, kd_sR, kd_sA, kd_sQ, kd_sL, kd_sD, ln_sI, ln_sR, ln_sA, ln_sQ, ln_sL, ln_sD, gI_sR, gI_sA, gI_sQ, gI_sL, gI_sD, gR_sI, gR_sA, gR_sQ, gR_sL, gR_sD, gA_sI, gA_sR, gA_sQ, gA_sL, gA_sD, gQ_sI, gQ_sR, gQ_sA, gQ_sL, gQ_sD, gL_sI, gL_sR, gL_sA, gL_sQ, gL_sD, kd_nO, kd_nA, *]) (by first | rfl | assumption) (by first | rfl | assumption) ?_
                  refine AW.name (fun H6 hH6 => ?_)
                  have K56 : Ks (SS S ra) H5 H6 := by rw [hH6]; exact Ks.rf.sI (fun _ => Or.inl rfl)
                  have K36 : Ks (SS S ra) H3 H6 := K35.tr K56
                  have hK6 : Ks (SS S ra) H H6 := hK3.tr K36
                  have hla : (row ++ [i]).length = row.length + 1 := by simp
                  have hS6 : SrR H6 S p ty to ra (mask ||| 2 ^ o) (row ++ [i]) b2 := by
                    have r6 : gR H6 = gR H3 := by rw [hH6, hH5]; rfl
                    have k6 : kd H6 = kd H3 := by rw [hH6, hH5]; rfl
                    have n6 : ln H6 = ln H3 := by rw [hH6, hH5]; rfl
                    have i6 : ∀ f, f ≠ 48 → f ≠ 49 → gI H6 f S = gI H3 f S := by
                      intro f h1 h2
                      rw [hH6, gI_sIn h2, hH5]
                      show gI (sI H3 48 S (nI (row.length + 1))) f S = _
                      rw [gI_sIn h1]
                    have a6 : gA H6 1047 ra = upd (gA H3 1047 ra) row.length (nI i) := by
                      rw [hH6]
                      show gA H5 1047 ra = _
                      rw [hH5, gA_sAs]
                      rfl
                    refine ⟨⟨by rw [k6]; exact s1, by rw [r6]; exact s2, by rw [r6]; exact s3, by rw [i6 46 (by decide) (by decide)]; exact s4, by rw [r6]; exact s5⟩, ⟨by rw [k6]; exact s6, by rw [n6]; exact s7⟩, ?_, ?_, fun j hj => ?_, ?_⟩
                    · rw [hla, hH6, gI_sIn (by decide), hH5]
                      show gI (sI H3 48 S (nI (row.length + 1))) 48 S = _
                      exact gI_sIs
                    · rw [hH6]
                      exact gI_sIs
                    · rw [a6]
                      unfold upd
                      by_cases hjr : j = row.length
                      · rw [if_pos hjr, hjr]
                        simp [List.getD]
                      · rw [if_neg hjr, s10 j (by omega)]
                        have : j < row.length := by omega
                        simp [List.getD, List.getElem?_append_left this]
                    · exact s11.ks K36 (by rw [r6]) (i6 51 (by decide) (by decide)) (i6 52 (by decide) (by decide)) (fun a ha q => q.elim (fun e => by rw [e, s1] at ha; exact absurd ha (by decide)) (fun e => by rw [e, s6] at ha; exact absurd ha (by decide)))
                  have hV6 := hV.ks hK6 (sk kS kra)
                  have hO6 := hO.ks hK6 (sk kS kra)
                  have hS6' := hS6
                  obtain ⟨⟨u1, u2, u3, u4, u5⟩, ⟨u6, u7⟩, u8, u9, u10, u11⟩ := hS6
                  obtain ⟨⟨w1, w2, w3⟩, v1, -, v3⟩ := hV6
                  have hTi6 := v3 i hil
                  have kt6 := hTi6.1
                  have k18 : gI H6 18 (tr i) = g (43 + 5 * i) := hTi6.2.2.2.1
                  have krL6 := v1.1
                  have hsn : s + g (43 + 5 * i) = nI (sm + nat g (43 + 5 * i)) := by rw [hs, tl1, nI_add]
                  have hsl : sm + nat g (43 + 5 * i) ≤ 99 * (row ++ [i]).length := by rw [hla]; omega
                  -- what follows the inner search
                  have back : ∀ (rc rs : Nat) (H7 : AH) (b3 : Best), 2 * RX ≤ rc → 12 * RX ≤ rs → Ks (SS S ra) H6 H7 → SrR H7 S p ty to ra (mask ||| 2 ^ o) (row ++ [i]) b3 → dfsStep (dfs g op to f) g op to pl mask row s i b2 = b3 → AW mX11_go G d Qr Qx rc rs H7 176 [some (vR (some S)), some (vI (nI pl)), some (vI s), some (vR (some it)), some (vI (nI i)), some (vI (nI o)), some (vI (nI 1))] [] := by
                    intro rc rs H7 b3 hrc hrs hK7 hS7 hb3
                    obtain ⟨⟨x1, x2, x3, x4, x5⟩, ⟨x6, x7⟩, x8, x9, x10, x11⟩ := hS7
                    rw [hla] at x8
                    refine r_aload_n (i := 0) dX11_go_176 rfl rfl ?_
                    refine r_dup dX11_go_177 rfl ?_
                    refine r_getI dX11_go_178 fR_X11_33 (by first | assumption | (simp only [kd_sI, kd_sR, kd_sA, kd_sQ, kd_sL, kd_sD, ln_sI, ln_sR, ln_sA, ln_sQ, ln_sL, ln_sD, gI_sR, gI_sA, gI_sQ, gI_sL, gI_sD, gR_sI, gR_sA, gR_sQ, gR_sL, gR_sD, gA_sI, gA_sR, gA_sQ, gA_sL, gA_sD, gQ_sI, gQ_sR, gQ_sA, gQ_sL, gQ_sD, gL_sI, gL_sR, gL_sA, gL_sQ, gL_sD]; assumption) | simp [kd_sI, kd_sR, kd_sA, kd_sQ, kd_sL, kd_sD, ln_sI, ln_sR, ln_sA, ln_sQ, ln_sL, ln_sD, gI_sR, gI_sA, gI_sQ, gI_sL, gI_sD, gR_sI, gR_sA, gR_sQ, gR_sL, gR_sD, gA_sI, gA_sR, gA_sQ, gA_sL, gA_sD, gQ_sI, gQ_sR, gQ_sA, gQ_sL, gQ_sD, gL_sI, gL_sR, gL_sA, gL_sQ, gL_sD, kd_nO, kd_nA, *]) (by first | assumption | exact gI_sIs | exact gR_sRs | with_reducible rfl | (simp only [kd_sI, kd_sR, kd_sA, kd_sQ, kd_sL, kd_sD, ln_sI, ln_sR, ln_sA, ln_sQ, ln_sL, ln_sD, gI_sR, gI_sA, gI_sQ, gI_sL, gI_sD, gR_sI, gR_sA, gR_sQ, gR_sL, gR_sD, gA_sI, gA_sR, gA_sQ, gA_sL, gA_sD, gQ_sI, gQ_sR, gQ_sA, gQ_sL, gQ_sD, gL_sI, gL_sR, gL_sA, gL_sQ, gL_sD]; first | done | assumption | with_reducible rfl) | rfl) ?_
                    refine r_iconst (v := nI 1) dX11_go_181 (by decide) ?_
                    refine r_iload dX11_go_182 rfl ?_
                    refine r_ishl dX11_go_184 ?_
                    refine r_iconst (v := -1) dX11_go_185 (by decide) ?_
                    refine r_ixor dX11_go_186 ?_
                    refine r_iand dX11_go_187 ?_
                    have e188 : (nI (mask ||| 2 ^ o) &&& ((nI 1 <<< (nI o &&& 31)) ^^^ -1)) = nI mask := bm3a
                    rw [e188]
                    refine r_putI dX11_go_188 fG_X11_33 (fun _ => by first | rfl | contradiction) (by first | assumption | (simp only [kd_sI, kd_sR, kd_sA, kd_sQ, kd_sL, kd_sD, ln_sI, ln_sR, ln_sA, ln_sQ, ln_sL, ln_sD, gI_sR, gI_sA, gI_sQ, gI_sL, gI_sD, gR_sI, gR_sA, gR_sQ, gR_sL, gR_sD, gA_sI, gA_sR, gA_sQ, gA_sL, gA_sD, gQ_sI, gQ_sR, gQ_sA, gQ_sL, gQ_sD, gL_sI, gL_sR, gL_sA, gL_sQ, gL_sD]; assumption) | simp [kd_sI, kd_sR, kd_sA, kd_sQ, kd_sL, kd_sD, ln_sI, ln_sR, ln_sA, ln_sQ, ln_sL, ln_sD, gI_sR, gI_sA, gI_sQ, gI_sL, gI_sD, gR_sI, gR_sA, gR_sQ, gR_sL, gR_sD, gA_sI, gA_sR, gA_sQ, gA_sL, gA_sD, gQ_sI, gQ_sR, gQ_sA, gQ_sL, gQ_sD, gL_sI, gL_sR, gL_sA, gL_sQ, gL_sD, kd_nO, kd_nA, *]) (by first | rfl | assumption) (by first | rfl | assumption) ?_
                    refine AW.name (fun H8 hH8 => ?_)
                    have y1 : kd H8 S = 11 := by rw [hH8]; exact x1
                    have y48 : gI H8 48 S = nI (row.length + 1) := by rw [hH8, gI_sIn (by decide)]; exact x8
                    refine r_aload_n (i := 0) dX11_go_191 rfl rfl ?_
                    refine r_dup dX11_go_192 rfl ?_
                    refine r_getI dX11_go_193 fR_X11_43 (by first | assumption | (simp only [kd_sI, kd_sR, kd_sA, kd_sQ, kd_sL, kd_sD, ln_sI, ln_sR, ln_sA, ln_sQ, ln_sL, ln_sD, gI_sR, gI_sA, gI_sQ, gI_sL, gI_sD, gR_sI, gR_sA, gR_sQ, gR_sL, gR_sD, gA_sI, gA_sR, gA_sQ, gA_sL, gA_sD, gQ_sI, gQ_sR, gQ_sA, gQ_sL, gQ_sD, gL_sI, gL_sR, gL_sA, gL_sQ, gL_sD]; assumption) | simp [kd_sI, kd_sR, kd_sA, kd_sQ, kd_sL, kd_sD, ln_sI, ln_sR, ln_sA, ln_sQ, ln_sL, ln_sD, gI_sR, gI_sA, gI_sQ, gI_sL, gI_sD, gR_sI, gR_sA, gR_sQ, gR_sL, gR_sD, gA_sI, gA_sR, gA_sQ, gA_sL, gA_sD, gQ_sI, gQ_sR, gQ_sA, gQ_sL, gQ_sD, gL_sI, gL_sR, gL_sA, gL_sQ, gL_sD, kd_nO, kd_nA, *]) (by first | assumption | exact gI_sIs | exact gR_sRs | with_reducible rfl | (simp only [kd_sI, kd_sR, kd_sA, kd_sQ, kd_sL, kd_sD, ln_sI, ln_sR, ln_sA, ln_sQ, ln_sL, ln_sD, gI_sR, gI_sA, gI_sQ, gI_sL, gI_sD, gR_sI, gR_sA, gR_sQ, gR_sL, gR_sD, gA_sI, gA_sR, gA_sQ, gA_sL, gA_sD, gQ_sI, gQ_sR, gQ_sA, gQ_sL, gQ_sD, gL_sI, gL_sR, gL_sA, gL_sQ, gL_sD]; first | done | assumption | with_reducible rfl) | rfl) ?_
                    refine r_iconst (v := nI 1) dX11_go_196 (by decide) ?_
                    refine r_isub dX11_go_197 ?_
                    rw [nI_sub (by omega), Nat.add_sub_cancel]
                    refine r_putI dX11_go_198 fG_X11_43 (fun _ => by first | rfl | contradiction) (by first | assumption | (simp only [kd_sI, kd_sR, kd_sA, kd_sQ, kd_sL, kd_sD, ln_sI, ln_sR, ln_sA, ln_sQ, ln_sL, ln_sD, gI_sR, gI_sA, gI_sQ, gI_sL, gI_sD, gR_sI, gR_sA, gR_sQ, gR_sL, gR_sD, gA_sI, gA_sR, gA_sQ, gA_sL, gA_sD, gQ_sI, gQ_sR, gQ_sA, gQ_sL, gQ_sD, gL_sI, gL_sR, gL_sA, gL_sQ, gL_sD]; assumption) | simp [kd_sI, kd_sR, kd_sA, kd_sQ, kd_sL, kd_sD, ln_sI, ln_sR, ln_sA, ln_sQ, ln_sL, ln_sD, gI_sR, gI_sA, gI_sQ, gI_sL, gI_sD, gR_sI, gR_sA, gR_sQ, gR_sL, gR_sD, gA_sI, gA_sR, gA_sQ, gA_sL, gA_sD, gQ_sI, gQ_sR, gQ_sA, gQ_sL, gQ_sD, gL_sI, gL_sR, gL_sA, gL_sQ, gL_sD, kd_nO, kd_nA, *]) (by first | rfl | assumption) (by first | rfl | assumption) ?_
                    refine AW.name (fun H9 hH9 => ?_)
                    have K79 : Ks (SS S ra) H7 H9 := by rw [hH9, hH8]; exact (Ks.rf.sI (fun _ => Or.inl rfl)).sI (fun _ => Or.inl rfl)
                    have r9 : gR H9 = gR H7 := by rw [hH9, hH8]; rfl
                    have k9 : kd H9 = kd H7 := by rw [hH9, hH8]; rfl
                    have n9 : ln H9 = ln H7 := by rw [hH9, hH8]; rfl
                    have a9 : gA H9 = gA H7 := by rw [hH9, hH8]; rfl
                    have i9 : ∀ f, f ≠ 48 → f ≠ 49 → gI H9 f S = gI H7 f S := by
                      intro f h1 h2
                      rw [hH9, gI_sIn h1, hH8, gI_sIn h2]
                    refine step _ _ H9 b3 _ _ _ hrc hrs ((K36.tr hK7).tr K79) ⟨⟨by rw [k9]; exact x1, by rw [r9]; exact x2, by rw [r9]; exact x3, by rw [i9 46 (by decide) (by decide)]; exact x4, by rw [r9]; exact x5⟩, ⟨by rw [k9]; exact x6, by rw [n9]; exact x7⟩, by rw [hH9]; exact gI_sIs, by rw [hH9, gI_sIn (by decide), hH8]; exact gI_sIs, fun j hj => ?_, ?_⟩ hb3
                    · rw [a9, x10 j (by omega)]
                      simp [List.getD, List.getElem?_append_left hj]
                    · exact x11.ks K79 (by rw [r9]) (i9 51 (by decide) (by decide)) (i9 52 (by decide) (by decide)) (fun a ha q => q.elim (fun e => by rw [e, x1] at ha; exact absurd ha (by decide)) (fun e => by rw [e, x6] at ha; exact absurd ha (by decide)))
                  refine r_aload_n (i := 0) dX11_go_150 rfl rfl ?_
                  refine r_iload dX11_go_151 rfl ?_
                  refine r_iload_n (i := 2) dX11_go_153 rfl rfl ?_
                  refine r_aload_n (i := 0) dX11_go_154 rfl rfl ?_
                  refine r_getR dX11_go_155 fR_X11_3 (by first | assumption | (simp only [kd_sI, kd_sR, kd_sA, kd_sQ, kd_sL, kd_sD, ln_sI, ln_sR, ln_sA, ln_sQ, ln_sL, ln_sD, gI_sR, gI_sA, gI_sQ, gI_sL, gI_sD, gR_sI, gR_sA, gR_sQ, gR_sL, gR_sD, gA_sI, gA_sR, gA_sQ, gA_sL, gA_sD, gQ_sI, gQ_sR, gQ_sA, gQ_sL, gQ_sD, gL_sI, gL_sR, gL_sA, gL_sQ, gL_sD]; assumption) | simp [kd_sI, kd_sR, kd_sA, kd_sQ, kd_sL, kd_sD, ln_sI, ln_sR, ln_sA, ln_sQ, ln_sL, ln_sD, gI_sR, gI_sA, gI_sQ, gI_sL, gI_sD, gR_sI, gR_sA, gR_sQ, gR_sL, gR_sD, gA_sI, gA_sR, gA_sQ, gA_sL, gA_sD, gQ_sI, gQ_sR, gQ_sA, gQ_sL, gQ_sD, gL_sI, gL_sR, gL_sA, gL_sQ, gL_sD, kd_nO, kd_nA, *]) (by first | assumption | exact gI_sIs | exact gR_sRs | with_reducible rfl | (simp only [kd_sI, kd_sR, kd_sA, kd_sQ, kd_sL, kd_sD, ln_sI, ln_sR, ln_sA, ln_sQ, ln_sL, ln_sD, gI_sR, gI_sA, gI_sQ, gI_sL, gI_sD, gR_sI, gR_sA, gR_sQ, gR_sL, gR_sD, gA_sI, gA_sR, gA_sQ, gA_sL, gA_sD, gQ_sI, gQ_sR, gQ_sA, gQ_sL, gQ_sD, gL_sI, gL_sR, gL_sA, gL_sQ, gL_sD]; first | done | assumption | with_reducible rfl) | rfl) ?_
                  refine r_getR dX11_go_158 fR_X11_83 (by first | assumption | (simp only [kd_sI, kd_sR, kd_sA, kd_sQ, kd_sL, kd_sD, ln_sI, ln_sR, ln_sA, ln_sQ, ln_sL, ln_sD, gI_sR, gI_sA, gI_sQ, gI_sL, gI_sD, gR_sI, gR_sA, gR_sQ, gR_sL, gR_sD, gA_sI, gA_sR, gA_sQ, gA_sL, gA_sD, gQ_sI, gQ_sR, gQ_sA, gQ_sL, gQ_sD, gL_sI, gL_sR, gL_sA, gL_sQ, gL_sD]; assumption) | simp [kd_sI, kd_sR, kd_sA, kd_sQ, kd_sL, kd_sD, ln_sI, ln_sR, ln_sA, ln_sQ, ln_sL, ln_sD, gI_sR, gI_sA, gI_sQ, gI_sL, gI_sD, gR_sI, gR_sA, gR_sQ, gR_sL, gR_sD, gA_sI, gA_sR, gA_sQ, gA_sL, gA_sD, gQ_sI, gQ_sR, gQ_sA, gQ_sL, gQ_sD, gL_sI, gL_sR, gL_sA, gL_sQ, gL_sD, kd_nO, kd_nA, *]) (by first | assumption | exact gI_sIs | exact gR_sRs | with_reducible rfl | (simp only [kd_sI, kd_sR, kd_sA, kd_sQ, kd_sL, kd_sD, ln_sI, ln_sR, ln_sA, ln_sQ, ln_sL, ln_sD, gI_sR, gI_sA, gI_sQ, gI_sL, gI_sD, gR_sI, gR_sA, gR_sQ, gR_sL, gR_sD, gA_sI, gA_sR, gA_sQ, gA_sL, gA_sD, gQ_sI, gQ_sR, gQ_sA, gQ_sL, gQ_sD, gL_sI, gL_sR, gL_sA, gL_sQ, gL_sD]; first | done | assumption | with_reducible rfl) | rfl) ?_
                  refine r_iload dX11_go_161 rfl ?_
                  refine r_callV (As := [_]) (mc' := 0) (ms' := 0) dX11_go_163 k_X11_87 rfl (by first | assumption | (simp only [kd_sI, kd_sR, kd_sA, kd_sQ, kd_sL, kd_sD, ln_sI, ln_sR, ln_sA, ln_sQ, ln_sL, ln_sD, gI_sR, gI_sA, gI_sQ, gI_sL, gI_sD, gR_sI, gR_sA, gR_sQ, gR_sL, gR_sD, gA_sI, gA_sR, gA_sQ, gA_sL, gA_sD, gQ_sI, gQ_sR, gQ_sA, gQ_sL, gQ_sD, gL_sI, gL_sR, gL_sA, gL_sQ, gL_sD]; assumption) | simp [kd_sI, kd_sR, kd_sA, kd_sQ, kd_sL, kd_sD, ln_sI, ln_sR, ln_sA, ln_sQ, ln_sL, ln_sD, gI_sR, gI_sA, gI_sQ, gI_sL, gI_sD, gR_sI, gR_sA, gR_sQ, gR_sL, gR_sD, gA_sI, gA_sR, gA_sQ, gA_sL, gA_sD, gQ_sI, gQ_sR, gQ_sA, gQ_sL, gQ_sD, gL_sI, gL_sR, gL_sA, gL_sQ, gL_sD, kd_nO, kd_nA, *]) (T := TJ2) (N := 3) rfl (by first | assumption | omega) (by first | assumption | omega) (by first | assumption | omega) (Nat.le_of_ble_eq_true rfl) ?_
                  refine s_get (by omega) v1 hil (by omega) ?_
                  show AW mX11_go G d Qr Qx _ _ H6 166 _ _
                  by_cases hoto : o = to
                  · rw [if_pos hoto] at hdS
                    refine r_cast dX11_go_166 (by first | assumption | (simp only [kd_sI, kd_sR, kd_sA, kd_sQ, kd_sL, kd_sD, ln_sI, ln_sR, ln_sA, ln_sQ, ln_sL, ln_sD, gI_sR, gI_sA, gI_sQ, gI_sL, gI_sD, gR_sI, gR_sA, gR_sQ, gR_sL, gR_sD, gA_sI, gA_sR, gA_sQ, gA_sL, gA_sD, gQ_sI, gQ_sR, gQ_sA, gQ_sL, gQ_sD, gL_sI, gL_sR, gL_sA, gL_sQ, gL_sD]; assumption) | simp [kd_sI, kd_sR, kd_sA, kd_sQ, kd_sL, kd_sD, ln_sI, ln_sR, ln_sA, ln_sQ, ln_sL, ln_sD, gI_sR, gI_sA, gI_sQ, gI_sL, gI_sD, gR_sI, gR_sA, gR_sQ, gR_sL, gR_sD, gA_sI, gA_sR, gA_sQ, gA_sL, gA_sD, gQ_sI, gQ_sR, gQ_sA, gQ_sL, gQ_sD, gL_sI, gL_sR, gL_sA, gL_sQ, gL_sD, kd_nO, kd_nA, *]) (T := TX4) (N := 7) rfl q1995 (Or.inl rfl) ?_
                    refine r_getI dX11_go_169 fR_X11_103 (by first | assumption | (simp only [kd_sI, kd_sR, kd_sA, kd_sQ, kd_sL, kd_sD, ln_sI, ln_sR, ln_sA, ln_sQ, ln_sL, ln_sD, gI_sR, gI_sA, gI_sQ, gI_sL, gI_sD, gR_sI, gR_sA, gR_sQ, gR_sL, gR_sD, gA_sI, gA_sR, gA_sQ, gA_sL, gA_sD, gQ_sI, gQ_sR, gQ_sA, gQ_sL, gQ_sD, gL_sI, gL_sR, gL_sA, gL_sQ, gL_sD]; assumption) | simp [kd_sI, kd_sR, kd_sA, kd_sQ, kd_sL, kd_sD, ln_sI, ln_sR, ln_sA, ln_sQ, ln_sL, ln_sD, gI_sR, gI_sA, gI_sQ, gI_sL, gI_sD, gR_sI, gR_sA, gR_sQ, gR_sL, gR_sD, gA_sI, gA_sR, gA_sQ, gA_sL, gA_sD, gQ_sI, gQ_sR, gQ_sA, gQ_sL, gQ_sD, gL_sI, gL_sR, gL_sA, gL_sQ, gL_sD, kd_nO, kd_nA, *]) (by first | assumption | exact gI_sIs | exact gR_sRs | with_reducible rfl | (simp only [kd_sI, kd_sR, kd_sA, kd_sQ, kd_sL, kd_sD, ln_sI, ln_sR, ln_sA, ln_sQ, ln_sL, ln_sD, gI_sR, gI_sA, gI_sQ, gI_sL, gI_sD, gR_sI, gR_sA, gR_sQ, gR_sL, gR_sD, gA_sI, gA_sR, gA_sQ, gA_sL, gA_sD, gQ_sI, gQ_sR, gQ_sA, gQ_sL, gQ_sD, gL_sI, gL_sR, gL_sA, gL_sQ, gL_sD]; first | done | assumption | with_reducible rfl) | rfl) ?_
                    refine r_iadd dX11_go_172 ?_
                    try simp only [nI_add]
                    refine r_callV (As := [_, _]) (mc' := 1) (ms' := 12) dX11_go_173 k_X11_36 rfl (by first | assumption | (simp only [kd_sI, kd_sR, kd_sA, kd_sQ, kd_sL, kd_sD, ln_sI, ln_sR, ln_sA, ln_sQ, ln_sL, ln_sD, gI_sR, gI_sA, gI_sQ, gI_sL, gI_sD, gR_sI, gR_sA, gR_sQ, gR_sL, gR_sD, gA_sI, gA_sR, gA_sQ, gA_sL, gA_sD, gQ_sI, gQ_sR, gQ_sA, gQ_sL, gQ_sD, gL_sI, gL_sR, gL_sA, gL_sQ, gL_sD]; assumption) | simp [kd_sI, kd_sR, kd_sA, kd_sQ, kd_sL, kd_sD, ln_sI, ln_sR, ln_sA, ln_sQ, ln_sL, ln_sD, gI_sR, gI_sA, gI_sQ, gI_sL, gI_sD, gR_sI, gR_sA, gR_sQ, gR_sL, gR_sD, gA_sI, gA_sR, gA_sQ, gA_sL, gA_sD, gQ_sI, gQ_sR, gQ_sA, gQ_sL, gQ_sD, gL_sI, gL_sR, gL_sA, gL_sQ, gL_sD, kd_nO, kd_nA, *]) (T := TX11) (N := 9) rfl (by first | assumption | omega) (by first | assumption | omega) (by first | assumption | omega) (Nat.le_of_ble_eq_true rfl) ?_
                    refine c_goTo hoto (by omega) hS6' hsn (by omega) (by omega) (fun H7 hK7 hS7 => ?_)
                    show AW mX11_go G d Qr Qx _ _ H7 176 _ _
                    exact back _ _ H7 _ (by omega) (by omega) hK7 hS7 hdS
                  · rw [if_neg hoto] at hdS
                    refine r_cast dX11_go_166 (by first | assumption | (simp only [kd_sI, kd_sR, kd_sA, kd_sQ, kd_sL, kd_sD, ln_sI, ln_sR, ln_sA, ln_sQ, ln_sL, ln_sD, gI_sR, gI_sA, gI_sQ, gI_sL, gI_sD, gR_sI, gR_sA, gR_sQ, gR_sL, gR_sD, gA_sI, gA_sR, gA_sQ, gA_sL, gA_sD, gQ_sI, gQ_sR, gQ_sA, gQ_sL, gQ_sD, gL_sI, gL_sR, gL_sA, gL_sQ, gL_sD]; assumption) | simp [kd_sI, kd_sR, kd_sA, kd_sQ, kd_sL, kd_sD, ln_sI, ln_sR, ln_sA, ln_sQ, ln_sL, ln_sD, gI_sR, gI_sA, gI_sQ, gI_sL, gI_sD, gR_sI, gR_sA, gR_sQ, gR_sL, gR_sD, gA_sI, gA_sR, gA_sQ, gA_sL, gA_sD, gQ_sI, gQ_sR, gQ_sA, gQ_sL, gQ_sD, gL_sI, gL_sR, gL_sA, gL_sQ, gL_sD, kd_nO, kd_nA, *]) (T := TX4) (N := 7) rfl q1995 (Or.inl rfl) ?_
                    refine r_getI dX11_go_169 fR_X11_103 (by first | assumption | (simp only [kd_sI, kd_sR, kd_sA, kd_sQ, kd_sL, kd_sD, ln_sI, ln_sR, ln_sA, ln_sQ, ln_sL, ln_sD, gI_sR, gI_sA, gI_sQ, gI_sL, gI_sD, gR_sI, gR_sA, gR_sQ, gR_sL, gR_sD, gA_sI, gA_sR, gA_sQ, gA_sL, gA_sD, gQ_sI, gQ_sR, gQ_sA, gQ_sL, gQ_sD, gL_sI, gL_sR, gL_sA, gL_sQ, gL_sD]; assumption) | simp [kd_sI, kd_sR, kd_sA, kd_sQ, kd_sL, kd_sD, ln_sI, ln_sR, ln_sA, ln_sQ, ln_sL, ln_sD, gI_sR, gI_sA, gI_sQ, gI_sL, gI_sD, gR_sI, gR_sA, gR_sQ, gR_sL, gR_sD, gA_sI, gA_sR, gA_sQ, gA_sL, gA_sD, gQ_sI, gQ_sR, gQ_sA, gQ_sL, gQ_sD, gL_sI, gL_sR, gL_sA, gL_sQ, gL_sD, kd_nO, kd_nA, *]) (by first | assumption | exact gI_sIs | exact gR_sRs | with_reducible rfl | (simp only [kd_sI, kd_sR, kd_sA, kd_sQ, kd_sL, kd_sD, ln_sI, ln_sR, ln_sA, ln_sQ, ln_sL, ln_sD, gI_sR, gI_sA, gI_sQ, gI_sL, gI_sD, gR_sI, gR_sA, gR_sQ, gR_sL, gR_sD, gA_sI, gA_sR, gA_sQ, gA_sL, gA_sD, gQ_sI, gQ_sR, gQ_sA, gQ_sL, gQ_sD, gL_sI, gL_sR, gL_sA, gL_sQ, gL_sD]; first | done | assumption | with_reducible rfl) | rfl) ?_
                    refine r_iadd dX11_go_172 ?_
                    try simp only [nI_add]
                    refine r_callV (As := [_, _]) (mc' := (2 * Z)) (ms' := (12 * Z)) dX11_go_173 k_X11_36 rfl (by first | assumption | (simp only [kd_sI, kd_sR, kd_sA, kd_sQ, kd_sL, kd_sD, ln_sI, ln_sR, ln_sA, ln_sQ, ln_sL, ln_sD, gI_sR, gI_sA, gI_sQ, gI_sL, gI_sD, gR_sI, gR_sA, gR_sQ, gR_sL, gR_sD, gA_sI, gA_sR, gA_sQ, gA_sL, gA_sD, gQ_sI, gQ_sR, gQ_sA, gQ_sL, gQ_sD, gL_sI, gL_sR, gL_sA, gL_sQ, gL_sD]; assumption) | simp [kd_sI, kd_sR, kd_sA, kd_sQ, kd_sL, kd_sD, ln_sI, ln_sR, ln_sA, ln_sQ, ln_sL, ln_sD, gI_sR, gI_sA, gI_sQ, gI_sL, gI_sD, gR_sI, gR_sA, gR_sQ, gR_sL, gR_sD, gA_sI, gA_sR, gA_sQ, gA_sL, gA_sD, gQ_sI, gQ_sR, gQ_sA, gQ_sL, gQ_sD, gL_sI, gL_sR, gL_sA, gL_sQ, gL_sD, kd_nO, kd_nA, *]) (T := TX11) (N := 9) rfl (by first | assumption | omega) (by first | assumption | omega) (by first | assumption | omega) (Nat.le_of_ble_eq_true rfl) ?_
                    rw [← hZ]
                    refine IH (by omega) (by omega) bm4 (by rw [bm_oth mask hm o ho to hto (fun e => hoto e.symm)]; exact hto0) ho bm5 (by rw [hla]; omega) hsn hsl (hV.ks hK6 (sk kS kra)) hO6 hS6' (fun H7 hK7 hS7 => ?_)
                    show AW mX11_go G d Qr Qx _ _ H7 176 _ _
                    exact back _ _ H7 _ (by omega) (by omega) hK7 hS7 hdS
                refine r_if_ne (tgt := 88) dX11_go_81 (by decide) (fun h81 => ?_) (fun h81 => ?_)
                · exact absurd rfl h81
                · refine r_iconst (v := nI 1) dX11_go_84 (by decide) ?_
                  refine r_goto (tgt := 89) dX11_go_85 (by decide) ?_
                  refine r_istore dX11_go_89 (Nat.le_of_ble_eq_true rfl) (by simp only [lset]; rfl) ?_
                  refine r_iload dX11_go_91 rfl ?_
                  refine r_if_eq (tgt := 201) dX11_go_93 (by decide) (fun h93 => ?_) (fun h93 => ?_)
                  · exact absurd h93 (by decide)
                  · rcases hO3 with ⟨ht, ho9⟩ | ⟨a, lv, ar, ht, ka, k65, k66, ho9⟩
                    · have s3n : gR H3 45 S = none := s3.trans ht
                      refine r_aload_n (i := 0) dX11_go_96 rfl rfl ?_
                      refine r_getR dX11_go_97 fR_X11_26 (by first | assumption | (simp only [kd_sI, kd_sR, kd_sA, kd_sQ, kd_sL, kd_sD, ln_sI, ln_sR, ln_sA, ln_sQ, ln_sL, ln_sD, gI_sR, gI_sA, gI_sQ, gI_sL, gI_sD, gR_sI, gR_sA, gR_sQ, gR_sL, gR_sD, gA_sI, gA_sR, gA_sQ, gA_sL, gA_sD, gQ_sI, gQ_sR, gQ_sA, gQ_sL, gQ_sD, gL_sI, gL_sR, gL_sA, gL_sQ, gL_sD]; assumption) | simp [kd_sI, kd_sR, kd_sA, kd_sQ, kd_sL, kd_sD, ln_sI, ln_sR, ln_sA, ln_sQ, ln_sL, ln_sD, gI_sR, gI_sA, gI_sQ, gI_sL, gI_sD, gR_sI, gR_sA, gR_sQ, gR_sL, gR_sD, gA_sI, gA_sR, gA_sQ, gA_sL, gA_sD, gQ_sI, gQ_sR, gQ_sA, gQ_sL, gQ_sD, gL_sI, gL_sR, gL_sA, gL_sQ, gL_sD, kd_nO, kd_nA, *]) (by first | assumption | exact gI_sIs | exact gR_sRs | with_reducible rfl | (simp only [kd_sI, kd_sR, kd_sA, kd_sQ, kd_sL, kd_sD, ln_sI, ln_sR, ln_sA, ln_sQ, ln_sL, ln_sD, gI_sR, gI_sA, gI_sQ, gI_sL, gI_sD, gR_sI, gR_sA, gR_sQ, gR_sL, gR_sD, gA_sI, gA_sR, gA_sQ, gA_sL, gA_sD, gQ_sI, gQ_sR, gQ_sA, gQ_sL, gQ_sD, gL_sI, gL_sR, gL_sA, gL_sQ, gL_sD]; first | done | assumption | with_reducible rfl) | rfl) ?_
                      refine r_ifnull (tgt := 119) dX11_go_100 (by decide) (fun h100 => ?_) (fun a100 h100 => ?_)
                      · exact cont (ho9 i hil) _ _ (by omega) (by omega)
                      · cases h100
                    · have s3n : gR H3 45 S = some a := s3.trans ht
                      refine r_aload_n (i := 0) dX11_go_96 rfl rfl ?_
                      refine r_getR dX11_go_97 fR_X11_26 (by first | assumption | (simp only [kd_sI, kd_sR, kd_sA, kd_sQ, kd_sL, kd_sD, ln_sI, ln_sR, ln_sA, ln_sQ, ln_sL, ln_sD, gI_sR, gI_sA, gI_sQ, gI_sL, gI_sD, gR_sI, gR_sA, gR_sQ, gR_sL, gR_sD, gA_sI, gA_sR, gA_sQ, gA_sL, gA_sD, gQ_sI, gQ_sR, gQ_sA, gQ_sL, gQ_sD, gL_sI, gL_sR, gL_sA, gL_sQ, gL_sD]; assumption) | simp [kd_sI, kd_sR, kd_sA, kd_sQ, kd_sL, kd_sD, ln_sI, ln_sR, ln_sA, ln_sQ, ln_sL, ln_sD, gI_sR, gI_sA, gI_sQ, gI_sL, gI_sD, gR_sI, gR_sA, gR_sQ, gR_sL, gR_sD, gA_sI, gA_sR, gA_sQ, gA_sL, gA_sD, gQ_sI, gQ_sR, gQ_sA, gQ_sL, gQ_sD, gL_sI, gL_sR, gL_sA, gL_sQ, gL_sD, kd_nO, kd_nA, *]) (by first | assumption | exact gI_sIs | exact gR_sRs | with_reducible rfl | (simp only [kd_sI, kd_sR, kd_sA, kd_sQ, kd_sL, kd_sD, ln_sI, ln_sR, ln_sA, ln_sQ, ln_sL, ln_sD, gI_sR, gI_sA, gI_sQ, gI_sL, gI_sD, gR_sI, gR_sA, gR_sQ, gR_sL, gR_sD, gA_sI, gA_sR, gA_sQ, gA_sL, gA_sD, gQ_sI, gQ_sR, gQ_sA, gQ_sL, gQ_sD, gL_sI, gL_sR, gL_sA, gL_sQ, gL_sD]; first | done | assumption | with_reducible rfl) | rfl) ?_
                      refine r_ifnull (tgt := 119) dX11_go_100 (by decide) (fun h100 => ?_) (fun a100 h100 => ?_)
                      · cases h100
                      · refine r_aload_n (i := 0) dX11_go_103 rfl rfl ?_
                        refine r_getR dX11_go_104 fR_X11_3 (by first | assumption | (simp only [kd_sI, kd_sR, kd_sA, kd_sQ, kd_sL, kd_sD, ln_sI, ln_sR, ln_sA, ln_sQ, ln_sL, ln_sD, gI_sR, gI_sA, gI_sQ, gI_sL, gI_sD, gR_sI, gR_sA, gR_sQ, gR_sL, gR_sD, gA_sI, gA_sR, gA_sQ, gA_sL, gA_sD, gQ_sI, gQ_sR, gQ_sA, gQ_sL, gQ_sD, gL_sI, gL_sR, gL_sA, gL_sQ, gL_sD]; assumption) | simp [kd_sI, kd_sR, kd_sA, kd_sQ, kd_sL, kd_sD, ln_sI, ln_sR, ln_sA, ln_sQ, ln_sL, ln_sD, gI_sR, gI_sA, gI_sQ, gI_sL, gI_sD, gR_sI, gR_sA, gR_sQ, gR_sL, gR_sD, gA_sI, gA_sR, gA_sQ, gA_sL, gA_sD, gQ_sI, gQ_sR, gQ_sA, gQ_sL, gQ_sD, gL_sI, gL_sR, gL_sA, gL_sQ, gL_sD, kd_nO, kd_nA, *]) (by first | assumption | exact gI_sIs | exact gR_sRs | with_reducible rfl | (simp only [kd_sI, kd_sR, kd_sA, kd_sQ, kd_sL, kd_sD, ln_sI, ln_sR, ln_sA, ln_sQ, ln_sL, ln_sD, gI_sR, gI_sA, gI_sQ, gI_sL, gI_sD, gR_sI, gR_sA, gR_sQ, gR_sL, gR_sD, gA_sI, gA_sR, gA_sQ, gA_sL, gA_sD, gQ_sI, gQ_sR, gQ_sA, gQ_sL, gQ_sD, gL_sI, gL_sR, gL_sA, gL_sQ, gL_sD]; first | done | assumption | with_reducible rfl) | rfl) ?_
                        refine r_iload dX11_go_107 rfl ?_
                        refine r_aload_n (i := 0) dX11_go_109 rfl rfl ?_
                        refine r_getR dX11_go_110 fR_X11_26 (by first | assumption | (simp only [kd_sI, kd_sR, kd_sA, kd_sQ, kd_sL, kd_sD, ln_sI, ln_sR, ln_sA, ln_sQ, ln_sL, ln_sD, gI_sR, gI_sA, gI_sQ, gI_sL, gI_sD, gR_sI, gR_sA, gR_sQ, gR_sL, gR_sD, gA_sI, gA_sR, gA_sQ, gA_sL, gA_sD, gQ_sI, gQ_sR, gQ_sA, gQ_sL, gQ_sD, gL_sI, gL_sR, gL_sA, gL_sQ, gL_sD]; assumption) | simp [kd_sI, kd_sR, kd_sA, kd_sQ, kd_sL, kd_sD, ln_sI, ln_sR, ln_sA, ln_sQ, ln_sL, ln_sD, gI_sR, gI_sA, gI_sQ, gI_sL, gI_sD, gR_sI, gR_sA, gR_sQ, gR_sL, gR_sD, gA_sI, gA_sR, gA_sQ, gA_sL, gA_sD, gQ_sI, gQ_sR, gQ_sA, gQ_sL, gQ_sD, gL_sI, gL_sR, gL_sA, gL_sQ, gL_sD, kd_nO, kd_nA, *]) (by first | assumption | exact gI_sIs | exact gR_sRs | with_reducible rfl | (simp only [kd_sI, kd_sR, kd_sA, kd_sQ, kd_sL, kd_sD, ln_sI, ln_sR, ln_sA, ln_sQ, ln_sL, ln_sD, gI_sR, gI_sA, gI_sQ, gI_sL, gI_sD, gR_sI, gR_sA, gR_sQ, gR_sL, gR_sD, gA_sI, gA_sR, gA_sQ, gA_sL, gA_sD, gQ_sI, gQ_sR, gQ_sA, gQ_sL, gQ_sD, gL_sI, gL_sR, gL_sA, gL_sQ, gL_sD]; first | done | assumption | with_reducible rfl) | rfl) ?_
                        refine r_callV (As := [_, _]) (mc' := 0) (ms' := 0) dX11_go_113 k_X11_99 rfl (by first | assumption | (simp only [kd_sI, kd_sR, kd_sA, kd_sQ, kd_sL, kd_sD, ln_sI, ln_sR, ln_sA, ln_sQ, ln_sL, ln_sD, gI_sR, gI_sA, gI_sQ, gI_sL, gI_sD, gR_sI, gR_sA, gR_sQ, gR_sL, gR_sD, gA_sI, gA_sR, gA_sQ, gA_sL, gA_sD, gQ_sI, gQ_sR, gQ_sA, gQ_sL, gQ_sD, gL_sI, gL_sR, gL_sA, gL_sQ, gL_sD]; assumption) | simp [kd_sI, kd_sR, kd_sA, kd_sQ, kd_sL, kd_sD, ln_sI, ln_sR, ln_sA, ln_sQ, ln_sL, ln_sD, gI_sR, gI_sA, gI_sQ, gI_sL, gI_sD, gR_sI, gR_sA, gR_sQ, gR_sL, gR_sD, gA_sI, gA_sR, gA_sQ, gA_sL, gA_sD, gQ_sI, gQ_sR, gQ_sA, gQ_sL, gQ_sD, gL_sI, gL_sR, gL_sA, gL_sQ, gL_sD, kd_nO, kd_nA, *]) (T := TX2) (N := 8) rfl (by first | assumption | omega) (by first | assumption | omega) (by first | assumption | omega) (Nat.le_of_ble_eq_true rfl) ?_
                        refine c_fits (by omega) p1 p2 p3 l1 (by omega) hil hTi ka k65 k66 ?_
                        rw [← ho9 i hil]
                        show AW mX11_go G d Qr Qx _ _ H3 116 _ _
                        cases hop : op i with
                        | false =>
                          rw [hop, Bool.not_false, if_pos rfl] at hdS
                          refine r_if_eq (tgt := 201) dX11_go_116 (by decide) (fun h116 => ?_) (fun h116 => ?_)
                          · exact step _ _ H3 b2 _ _ _ (by omega) (by omega) Ks.rf hS3' hdS
                          · exact absurd rfl h116
                        | true =>
                          refine r_if_eq (tgt := 201) dX11_go_116 (by decide) (fun h116 => ?_) (fun h116 => ?_)
                          · exact absurd h116 (by decide)
                          · exact cont hop _ _ (by omega) (by omega)
      refine loop (n + 1) (nxF g pl 0 n) _ _ H2 b _ _ _ (by omega) ?_ ?_ ?_ ?_ (K12.mono (fun _ _ h => h.elim)) hI2 h56 (hS0.ks K12 (fun h => h) (fun h => h) (fun _ _ h => h)) ?_
      · have := (nxF_le (g := g) (pl := pl) n 0).2.1
        omega
      · intro h
        exact (nxF_le (g := g) (pl := pl) n 0).2.2 (by omega)
      · have h1 := cR_sub (P := kP g mask pl) (nxF g pl 0 n) (n - nxF g pl 0 n) 0
        have h2 := (nxF_le (g := g) (pl := pl) n 0).2.1
        rw [Nat.zero_add, show nxF g pl 0 n + (n - nxF g pl 0 n) = n by omega] at h1
        have h3 := Nat.mul_le_mul_right X h1
        omega
      · have h1 := cR_sub (P := kP g mask pl) (nxF g pl 0 n) (n - nxF g pl 0 n) 0
        have h2 := (nxF_le (g := g) (pl := pl) n 0).2.1
        rw [Nat.zero_add, show nxF g pl 0 n + (n - nxF g pl 0 n) = n by omega] at h1
        have h3 := Nat.mul_le_mul_right X h1
        omega
      · rw [← hB0, scan_nx n 0 b, Nat.zero_add]
    · exact absurd ((nI_eq8 hp hto).mp (by simpa using h5)) hnp
end Go
