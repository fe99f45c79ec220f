set_option maxRecDepth 100000
/-! NEEDS AND RESTS -/
theorem insD_first : ∀ (l : List Nat) (k x : Nat), k ≤ l.length → (∀ j, j < k → x ≤ l.getD j 0) → (k = l.length ∨ l.getD k 0 < x) → insD l x = l.take k ++ x :: l.drop k := by
  intro l
  induction l with
  | nil =>
    intro k x hk _ _
    have : k = 0 := by simpa using hk
    subst this
    rfl
  | cons a l ih =>
    intro k x hk hge hlt
    cases k with
    | zero =>
      have h3 : a < x := by
        rcases hlt with h | h
        · simp at h
        · simpa using h
      unfold insD
      rw [if_neg (by omega)]
      rfl
    | succ k =>
      have hxa : x ≤ a := by simpa using hge 0 (by omega)
      unfold insD
      rw [if_pos hxa, ih k x (by simpa using hk) (fun j hj => by simpa using hge (j + 1) (by omega)) (by
        rcases hlt with h | h
        · left; simpa using h
        · right; simpa using h)]
      rfl
theorem ins_at (l : List Nat) (k x j : Nat) (hk : k ≤ l.length) : (l.take k ++ x :: l.drop k).getD j 0 = if j < k then l.getD j 0 else if j = k then x else l.getD (j - 1) 0 := by
  by_cases h : j < k
  · rw [if_pos h]
    simp only [List.getD]
    rw [List.getElem?_append_left (by simp; omega), List.getElem?_take, if_pos h]
  · rw [if_neg h]
    simp only [List.getD]
    rw [List.getElem?_append_right (by simp; omega), List.length_take, Nat.min_eq_left hk]
    by_cases e : j = k
    · rw [if_pos e, e, Nat.sub_self]
      rfl
    · rw [if_neg e]
      obtain ⟨m, hm⟩ : ∃ m, j - k = m + 1 := ⟨j - k - 1, by omega⟩
      rw [hm, List.getElem?_cons_succ, List.getElem?_drop, show k + m = j - 1 by omega]
theorem app_at (l : List Nat) (x j : Nat) : (l ++ [x]).getD j 0 = if j < l.length then l.getD j 0 else if j = l.length then x else 0 := by
  simp only [List.getD]
  by_cases h : j < l.length
  · rw [if_pos h, List.getElem?_append_left h]
  · rw [if_neg h, List.getElem?_append_right (by omega)]
    by_cases e : j = l.length
    · rw [if_pos e, e, Nat.sub_self]
      rfl
    · rw [if_neg e]
      obtain ⟨m, hm⟩ : ∃ m, j - l.length = m + 1 := ⟨j - l.length - 1, by omega⟩
      rw [hm]
      rfl
/-- a list of Integers -/
def IL (G : Gl) (H : AH) (L e : Nat) (xs : Nat → Nat) (l : List Nat) : Prop := LsO G H L l.length xs e ∧ ∀ i, i < l.length → IntO G H (xs i) (nI (l.getD i 0))
section Needs
variable {G : Gl} {d : Nat} {Qr : Option AV → AH → Prop} {Qx : String → Nat → AH → Prop} {H : AH} {O : Nat → Nat} {p t : Nat} {A : PA} {g : Nat → Int32} {eT eR eC eD : Nat} {ty nm nd tr tc tf tu ca rl re dr : Nat → Nat} {st : Nat → Nat → Nat}
theorem IL.ks {H' : AH} {S : Nat → Prop} {L e : Nat} {xs : Nat → Nat} {l : List Nat} (h : IL G H L e xs l) (hk : Ks S H H') (hS : ∀ a, kd H a ≠ 0 → S a → kd H a ≠ 20 ∧ kd H a ≠ 4096 ∧ kd H a ≠ 26) : IL G H' L e xs l := ⟨h.1.ks hk (fun q => (hS L (by rw [h.1.1]; decide) q).1 h.1.1) (fun k q => (hS e (by rw [k]; decide) q).2.1 k), fun i hi => (h.2 i hi).ks hk (fun k q => (hS _ (by rw [k]; decide) q).2.2 k)⟩
/-- an Integer comes in -/
theorem IL.ins {H' : AH} {L e e' q j x : Nat} {xs : Nat → Nat} {l : List Nat} (h : IL G H L e xs l) (z : kd H (gSt G 1) = 0) (hj : j ≤ l.length) (hq : IntO G H q (nI x)) (hK : Ks (SL L e) H H') (hL' : LsO G H' L (l.length + 1) (inX xs j q) e') : IL G H' L e' (inX xs j q) (l.take j ++ x :: l.drop j) := by
  have nsl := sl_ne h.1 z
  have hlen : (l.take j ++ x :: l.drop j).length = l.length + 1 := by simp; omega
  refine ⟨by rw [hlen]; exact hL', fun i hi => ?_⟩
  rw [hlen] at hi
  have kk : ∀ {a v}, IntO G H a v → IntO G H' a v := fun ho => ho.ks hK (fun k => nsl _ (by rw [k]; decide) (by rw [k]; decide) (by rw [k]; decide))
  rw [ins_at l j x i hj]
  unfold inX
  by_cases h1 : i < j
  · rw [if_pos h1, if_pos h1]
    exact kk (h.2 i (by omega))
  · rw [if_neg h1, if_neg h1]
    by_cases h2 : i = j
    · rw [if_pos h2, if_pos h2]
      exact kk hq
    · rw [if_neg h2, if_neg h2]
      exact kk (h.2 (i - 1) (by omega))
theorem IL.app {H' : AH} {L e e' q x : Nat} {xs : Nat → Nat} {l : List Nat} (h : IL G H L e xs l) (z : kd H (gSt G 1) = 0) (hq : IntO G H q (nI x)) (hK : Ks (SL L e) H H') (hL' : LsO G H' L (l.length + 1) (va_up xs l.length q) e') : IL G H' L e' (va_up xs l.length q) (l ++ [x]) := by
  have nsl := sl_ne h.1 z
  have hlen : (l ++ [x]).length = l.length + 1 := by simp
  refine ⟨by rw [hlen]; exact hL', fun i hi => ?_⟩
  rw [hlen] at hi
  have kk : ∀ {a v}, IntO G H a v → IntO G H' a v := fun ho => ho.ks hK (fun k => nsl _ (by rw [k]; decide) (by rw [k]; decide) (by rw [k]; decide))
  rw [app_at l x i]
  by_cases h1 : i < l.length
  · rw [if_pos h1, vup_o (by omega)]
    exact kk (h.2 i h1)
  · have h2 : i = l.length := by omega
    rw [if_neg h1, if_pos h2, h2, vup_n]
    exact kk hq
theorem pl_needs {y : Int32} (hd : 8 ≤ d) (hW : PW G H p A g eT ty eR tr tc tf tu eC ca rl re st eD dr) (hI9 : IG g) (hQ : ∀ H' L e xs, Ks (fun _ => False) H H' → IL G H' L e xs (needsF g y (nat g 101)) → Qr (some (vR (some L))) H') : AMet G d 38 331 yX2_needs wX2_needs H [vR (some p), vI y] Qr Qx := by
  have hB := hI9.1
  have h101 := hB.2.2.1.2
  have hN := GN_of hI9
  have hCA0 := hW.2.2.2.1.1.1
  refine AMet.of (M := mX2_needs) (maxL := 6) (by first | rfl | decide +kernel) rfl (Nat.le_of_ble_eq_true rfl) ?_
  show AW mX2_needs _ _ _ _ _ _ _ 0 [some (vR (some p)), some (vI y), none, none, none, none] []
  refine AW.st0 (fun z0 => ?_)
  refine r_new dX2_needs_0 cT_J2 q155 q156 q87 (by decide +kernel) (by first | assumption | omega) (by first | assumption | omega) (fun q0 hq0 => ?_)
  refine r_dup dX2_needs_3 rfl ?_
  have hq : kd H q0 = 0 := hq0
  refine AW.name (fun H1 hH1 => ?_)
  have K1 : Ks (fun _ => False) H H1 := by rw [hH1]; exact Ks.rf.nO hq
  have kq : kd H1 q0 = 20 := by rw [hH1, kd_nO, if_pos rfl]
  have zq : gI H1 97 q0 = 0 := by rw [hH1, gI_nO, if_pos rfl]
  refine r_callI (As := []) (mc' := 0) (ms' := 0) dX2_needs_4 k_X2_11 rfl (by first | assumption | omega) (by first | assumption | omega) (by first | assumption | omega) (Nat.le_of_ble_eq_true rfl) ?_
  refine s_lsInit (xs := fun _ => 0) (by omega) kq zq (fun H2 hK2 hL2 => ?_)
  have K2 : Ks (fun _ => False) H H2 := K1.tr2 hK2 (fun a ha e => by rw [e] at ha; exact ha hq)
  have hW2 := hW.k0 K2
  have kp2 := hW2.1.1
  have r11 := hW2.1.2.2.2.2.1
  have kC2 := hW2.2.2.2.1.1.1
  show AW mX2_needs G d Qr Qx _ _ H2 7 _ _
  refine r_astore_n (i := 2) dX2_needs_7 rfl (Nat.le_of_ble_eq_true rfl) (by simp only [lset]; rfl) ?_
  refine r_aload_n (i := 0) dX2_needs_8 rfl rfl ?_
  refine r_getR dX2_needs_9 fR_X2_28 (by first | assumption | (simp only [kd_sI, kd_sR, kd_sA, kd_sQ, kd_sL, kd_sD, ln_sI, ln_sR, ln_sA, ln_sQ, ln_sL, ln_sD, gI_sR, gI_sA, gI_sQ, gI_sL, gI_sD, gR_sI, gR_sA, gR_sQ, gR_sL, gR_sD, gA_sI, gA_sR, gA_sQ, gA_sL, gA_sD, gQ_sI, gQ_sR, gQ_sA, gQ_sL, gQ_sD, gL_sI, gL_sR, gL_sA, gL_sQ, gL_sD]; assumption) | simp [kd_sI, kd_sR, kd_sA, kd_sQ, kd_sL, kd_sD, ln_sI, ln_sR, ln_sA, ln_sQ, ln_sL, ln_sD, gI_sR, gI_sA, gI_sQ, gI_sL, gI_sD, gR_sI, gR_sA, gR_sQ, gR_sL, gR_sD, gA_sI, gA_sR, gA_sQ, gA_sL, gA_sD, gQ_sI, gQ_sR, gQ_sA, gQ_sL, gQ_sD, gL_sI, gL_sR, gL_sA, gL_sQ, gL_sD, kd_nO, kd_nA, *]) (by first | assumption | exact gI_sIs | exact gR_sRs | with_reducible rfl | (simp only [kd_sI, kd_sR, kd_sA, kd_sQ, kd_sL, kd_sD, ln_sI, ln_sR, ln_sA, ln_sQ, ln_sL, ln_sD, gI_sR, gI_sA, gI_sQ, gI_sL, gI_sD, gR_sI, gR_sA, gR_sQ, gR_sL, gR_sD, gA_sI, gA_sR, gA_sQ, gA_sL, gA_sD, gQ_sI, gQ_sR, gQ_sA, gQ_sL, gQ_sD, gL_sI, gL_sR, gL_sA, gL_sQ, gL_sD]; first | done | assumption | with_reducible rfl) | rfl) ?_
  refine r_callV (As := []) (mc' := 1) (ms' := 4) dX2_needs_12 k_X2_42 rfl (by first | assumption | (simp only [kd_sI, kd_sR, kd_sA, kd_sQ, kd_sL, kd_sD, ln_sI, ln_sR, ln_sA, ln_sQ, ln_sL, ln_sD, gI_sR, gI_sA, gI_sQ, gI_sL, gI_sD, gR_sI, gR_sA, gR_sQ, gR_sL, gR_sD, gA_sI, gA_sR, gA_sQ, gA_sL, gA_sD, gQ_sI, gQ_sR, gQ_sA, gQ_sL, gQ_sD, gL_sI, gL_sR, gL_sA, gL_sQ, gL_sD]; assumption) | simp [kd_sI, kd_sR, kd_sA, kd_sQ, kd_sL, kd_sD, ln_sI, ln_sR, ln_sA, ln_sQ, ln_sL, ln_sD, gI_sR, gI_sA, gI_sQ, gI_sL, gI_sD, gR_sI, gR_sA, gR_sQ, gR_sL, gR_sD, gA_sI, gA_sR, gA_sQ, gA_sL, gA_sD, gQ_sI, gQ_sR, gQ_sA, gQ_sL, gQ_sD, gL_sI, gL_sR, gL_sA, gL_sQ, gL_sD, kd_nO, kd_nA, *]) (T := TJ2) (N := 3) rfl (by first | assumption | omega) (by first | assumption | omega) (by first | assumption | omega) (Nat.le_of_ble_eq_true rfl) ?_
  refine s_iterator (by omega) kC2 (fun H3 it hit hK3 hI3 => ?_)
  have K3 := K2.tr hK3
  have hit0 : kd H it = 0 := K2.fr hit
  have hL3 := hL2.ks hK3 (fun h => h) (fun _ h => h)
  show AW mX2_needs G d Qr Qx _ _ H3 15 _ _
  refine r_astore_n (i := 3) dX2_needs_15 rfl (Nat.le_of_ble_eq_true rfl) (by simp only [lset]; rfl) ?_
  have loop : ∀ (k i rc rs : Nat) (H4 : AH) (e : Nat) (xs : Nat → Nat) (l4 l5 : Option AV), i + k = nat g 101 → 3 * k ≤ rc → 27 * k ≤ rs → Ks (fun _ => False) H H4 → ItS H4 it A.ca i → kd H e = 0 → IL G H4 q0 e xs (needsF g y i) → AW mX2_needs G d Qr Qx rc rs H4 16 [some (vR (some p)), some (vI y), some (vR (some q0)), some (vR (some it)), l4, l5] [] := by
    intro k
    induction k with
    | zero =>
      intro i rc rs H4 e xs l4 l5 hi hrc hrs K4 hI4 he hL4
      have hW4 := hW.k0 K4
      have ki := hI4.1
      refine r_aload_n (i := 3) dX2_needs_16 rfl rfl ?_
      refine r_callF (As := []) (mc' := 0) (ms' := 0) dX2_needs_17 k_X2_46_J14 rfl (by first | assumption | (simp only [kd_sI, kd_sR, kd_sA, kd_sQ, kd_sL, kd_sD, ln_sI, ln_sR, ln_sA, ln_sQ, ln_sL, ln_sD, gI_sR, gI_sA, gI_sQ, gI_sL, gI_sD, gR_sI, gR_sA, gR_sQ, gR_sL, gR_sD, gA_sI, gA_sR, gA_sQ, gA_sL, gA_sD, gQ_sI, gQ_sR, gQ_sA, gQ_sL, gQ_sD, gL_sI, gL_sR, gL_sA, gL_sQ, gL_sD]; assumption) | simp [kd_sI, kd_sR, kd_sA, kd_sQ, kd_sL, kd_sD, ln_sI, ln_sR, ln_sA, ln_sQ, ln_sL, ln_sD, gI_sR, gI_sA, gI_sQ, gI_sL, gI_sD, gR_sI, gR_sA, gR_sQ, gR_sL, gR_sD, gA_sI, gA_sR, gA_sQ, gA_sL, gA_sD, gQ_sI, gQ_sR, gQ_sA, gQ_sL, gQ_sD, gL_sI, gL_sR, gL_sA, gL_sQ, gL_sD, kd_nO, kd_nA, *]) (T := TJ14) (N := 4) rfl (by first | assumption | omega) (by first | assumption | omega) (by first | assumption | omega) (Nat.le_of_ble_eq_true rfl) ?_
      refine s_hasNext hI4 hW4.2.2.2.1.1.1 hW4.2.2.2.1.1.2.1 (by omega) (by omega) ?_
      rw [if_pos (by omega)]
      show AW mX2_needs G d Qr Qx _ _ H4 22 _ _
      refine r_if_eq (tgt := 80) dX2_needs_22 (by decide) (fun h22 => ?_) (fun h22 => ?_)
      · refine r_aload_n (i := 2) dX2_needs_80 rfl rfl ?_
        refine r_areturn dX2_needs_81 rfl (by first | exact Or.inl ⟨_, rfl⟩ | exact Or.inr ⟨_, rfl⟩) ?_
        refine hQ H4 q0 e xs K4 ?_
        rw [← show i = nat g 101 by omega]
        exact hL4
      · exact absurd rfl h22
    | succ k ih =>
      intro i rc rs H4 e xs l4 l5 hi hrc hrs K4 hI4 he hL4
      have hW4 := hW.k0 K4
      have ki := hI4.1
      refine r_aload_n (i := 3) dX2_needs_16 rfl rfl ?_
      refine r_callF (As := []) (mc' := 0) (ms' := 0) dX2_needs_17 k_X2_46_J14 rfl (by first | assumption | (simp only [kd_sI, kd_sR, kd_sA, kd_sQ, kd_sL, kd_sD, ln_sI, ln_sR, ln_sA, ln_sQ, ln_sL, ln_sD, gI_sR, gI_sA, gI_sQ, gI_sL, gI_sD, gR_sI, gR_sA, gR_sQ, gR_sL, gR_sD, gA_sI, gA_sR, gA_sQ, gA_sL, gA_sD, gQ_sI, gQ_sR, gQ_sA, gQ_sL, gQ_sD, gL_sI, gL_sR, gL_sA, gL_sQ, gL_sD]; assumption) | simp [kd_sI, kd_sR, kd_sA, kd_sQ, kd_sL, kd_sD, ln_sI, ln_sR, ln_sA, ln_sQ, ln_sL, ln_sD, gI_sR, gI_sA, gI_sQ, gI_sL, gI_sD, gR_sI, gR_sA, gR_sQ, gR_sL, gR_sD, gA_sI, gA_sR, gA_sQ, gA_sL, gA_sD, gQ_sI, gQ_sR, gQ_sA, gQ_sL, gQ_sD, gL_sI, gL_sR, gL_sA, gL_sQ, gL_sD, kd_nO, kd_nA, *]) (T := TJ14) (N := 4) rfl (by first | assumption | omega) (by first | assumption | omega) (by first | assumption | omega) (Nat.le_of_ble_eq_true rfl) ?_
      refine s_hasNext hI4 hW4.2.2.2.1.1.1 hW4.2.2.2.1.1.2.1 (by omega) (by omega) ?_
      rw [if_neg (by omega)]
      show AW mX2_needs G d Qr Qx _ _ H4 22 _ _
      refine r_if_eq (tgt := 80) dX2_needs_22 (by decide) (fun h22 => ?_) (fun h22 => ?_)
      · exact absurd (show (nI 1 : Int32) = 0 by simpa using h22) (by decide)
      · refine r_aload_n (i := 3) dX2_needs_25 rfl rfl ?_
        refine r_callF (As := []) (mc' := 0) (ms' := 0) dX2_needs_26 k_X2_52_J14 rfl (by first | assumption | (simp only [kd_sI, kd_sR, kd_sA, kd_sQ, kd_sL, kd_sD, ln_sI, ln_sR, ln_sA, ln_sQ, ln_sL, ln_sD, gI_sR, gI_sA, gI_sQ, gI_sL, gI_sD, gR_sI, gR_sA, gR_sQ, gR_sL, gR_sD, gA_sI, gA_sR, gA_sQ, gA_sL, gA_sD, gQ_sI, gQ_sR, gQ_sA, gQ_sL, gQ_sD, gL_sI, gL_sR, gL_sA, gL_sQ, gL_sD]; assumption) | simp [kd_sI, kd_sR, kd_sA, kd_sQ, kd_sL, kd_sD, ln_sI, ln_sR, ln_sA, ln_sQ, ln_sL, ln_sD, gI_sR, gI_sA, gI_sQ, gI_sL, gI_sD, gR_sI, gR_sA, gR_sQ, gR_sL, gR_sD, gA_sI, gA_sR, gA_sQ, gA_sL, gA_sD, gQ_sI, gQ_sR, gQ_sA, gQ_sL, gQ_sD, gL_sI, gL_sR, gL_sA, gL_sQ, gL_sD, kd_nO, kd_nA, *]) (T := TJ14) (N := 4) rfl (by first | assumption | omega) (by first | assumption | omega) (by first | assumption | omega) (Nat.le_of_ble_eq_true rfl) ?_
        refine s_next (by omega) hI4 hW4.2.2.2.1.1 (by omega) (by omega) (fun H5 hK5 hI5 => ?_)
        have K5 : Ks (fun _ => False) H H5 := K4.tr2 hK5 (fun a ha e => by rw [e] at ha; exact ha hit0)
        have hW5 := hW.k0 K5
        have kp5 := hW5.1.1
        have hL5 := hL4.ks hK5 (fun a _ e => by rw [e, ki]; decide)
        have hx := hW5.2.2.2.1.2 i (by omega)
        have kx := hx.1.1
        have f23 : gI H5 23 (ca i) = g (102 + 21 * i) := hx.1.2.1.trans (cv_at i _ (by omega))
        have f26 : gI H5 26 (ca i) = g (105 + 21 * i) := hx.1.2.2.2.2.1.trans (cv_at i _ (by omega))
        have kq5 := hL5.1.1
        have hs : needsF g y (i + 1) = needsF g y i ++ (if g (102 + 21 * i) = y ∧ g (105 + 21 * i) = nI 1 then [qn g i] else []) := rfl
        have skip : ¬ (g (102 + 21 * i) = y ∧ g (105 + 21 * i) = nI 1) → AW mX2_needs G d Qr Qx rc rs H5 74 [some (vR (some p)), some (vI y), some (vR (some q0)), some (vR (some it)), some (vR (some (ca i))), l5] [] := by
          intro hno
          rw [if_neg hno, List.append_nil] at hs
          refine r_iconst (v := nI 0) dX2_needs_74 (by decide) ?_
          refine r_istore dX2_needs_75 (Nat.le_of_ble_eq_true rfl) (by simp only [lset]; rfl) ?_
          refine r_goto (tgt := 16) dX2_needs_77 (by decide) ?_
          exact ih (i + 1) _ _ H5 e xs _ _ (by omega) (by omega) (by omega) K5 hI5 he (by rw [hs]; exact hL5)
        show AW mX2_needs G d Qr Qx _ _ H5 31 _ _
        refine r_cast dX2_needs_31 (by first | assumption | (simp only [kd_sI, kd_sR, kd_sA, kd_sQ, kd_sL, kd_sD, ln_sI, ln_sR, ln_sA, ln_sQ, ln_sL, ln_sD, gI_sR, gI_sA, gI_sQ, gI_sL, gI_sD, gR_sI, gR_sA, gR_sQ, gR_sL, gR_sD, gA_sI, gA_sR, gA_sQ, gA_sL, gA_sD, gQ_sI, gQ_sR, gQ_sA, gQ_sL, gQ_sD, gL_sI, gL_sR, gL_sA, gL_sQ, gL_sD]; assumption) | simp [kd_sI, kd_sR, kd_sA, kd_sQ, kd_sL, kd_sD, ln_sI, ln_sR, ln_sA, ln_sQ, ln_sL, ln_sD, gI_sR, gI_sA, gI_sQ, gI_sL, gI_sD, gR_sI, gR_sA, gR_sQ, gR_sL, gR_sD, gA_sI, gA_sR, gA_sQ, gA_sL, gA_sD, gQ_sI, gQ_sR, gQ_sA, gQ_sL, gQ_sD, gL_sI, gL_sR, gL_sA, gL_sQ, gL_sD, kd_nO, kd_nA, *]) (T := TX5) (N := 7) rfl q1222 (Or.inl rfl) ?_
        refine r_astore dX2_needs_34 (Nat.le_of_ble_eq_true rfl) (by simp only [lset]; rfl) ?_
        refine r_aload dX2_needs_36 rfl ?_
        refine r_getI dX2_needs_38 fR_X2_235 (by first | assumption | (simp only [kd_sI, kd_sR, kd_sA, kd_sQ, kd_sL, kd_sD, ln_sI, ln_sR, ln_sA, ln_sQ, ln_sL, ln_sD, gI_sR, gI_sA, gI_sQ, gI_sL, gI_sD, gR_sI, gR_sA, gR_sQ, gR_sL, gR_sD, gA_sI, gA_sR, gA_sQ, gA_sL, gA_sD, gQ_sI, gQ_sR, gQ_sA, gQ_sL, gQ_sD, gL_sI, gL_sR, gL_sA, gL_sQ, gL_sD]; assumption) | simp [kd_sI, kd_sR, kd_sA, kd_sQ, kd_sL, kd_sD, ln_sI, ln_sR, ln_sA, ln_sQ, ln_sL, ln_sD, gI_sR, gI_sA, gI_sQ, gI_sL, gI_sD, gR_sI, gR_sA, gR_sQ, gR_sL, gR_sD, gA_sI, gA_sR, gA_sQ, gA_sL, gA_sD, gQ_sI, gQ_sR, gQ_sA, gQ_sL, gQ_sD, gL_sI, gL_sR, gL_sA, gL_sQ, gL_sD, kd_nO, kd_nA, *]) (by first | assumption | exact gI_sIs | exact gR_sRs | with_reducible rfl | (simp only [kd_sI, kd_sR, kd_sA, kd_sQ, kd_sL, kd_sD, ln_sI, ln_sR, ln_sA, ln_sQ, ln_sL, ln_sD, gI_sR, gI_sA, gI_sQ, gI_sL, gI_sD, gR_sI, gR_sA, gR_sQ, gR_sL, gR_sD, gA_sI, gA_sR, gA_sQ, gA_sL, gA_sD, gQ_sI, gQ_sR, gQ_sA, gQ_sL, gQ_sD, gL_sI, gL_sR, gL_sA, gL_sQ, gL_sD]; first | done | assumption | with_reducible rfl) | rfl) ?_
        refine r_iload_n (i := 1) dX2_needs_41 rfl rfl ?_
        refine r_icmp_ne (tgt := 74) dX2_needs_42 (by decide) (fun h42 => ?_) (fun h42 => ?_)
        · exact skip (fun q => by simp [q.1] at h42)
        · have h1 : g (102 + 21 * i) = y := by simpa using h42
          refine r_aload dX2_needs_45 rfl ?_
          refine r_getI dX2_needs_47 fR_X2_211 (by first | assumption | (simp only [kd_sI, kd_sR, kd_sA, kd_sQ, kd_sL, kd_sD, ln_sI, ln_sR, ln_sA, ln_sQ, ln_sL, ln_sD, gI_sR, gI_sA, gI_sQ, gI_sL, gI_sD, gR_sI, gR_sA, gR_sQ, gR_sL, gR_sD, gA_sI, gA_sR, gA_sQ, gA_sL, gA_sD, gQ_sI, gQ_sR, gQ_sA, gQ_sL, gQ_sD, gL_sI, gL_sR, gL_sA, gL_sQ, gL_sD]; assumption) | simp [kd_sI, kd_sR, kd_sA, kd_sQ, kd_sL, kd_sD, ln_sI, ln_sR, ln_sA, ln_sQ, ln_sL, ln_sD, gI_sR, gI_sA, gI_sQ, gI_sL, gI_sD, gR_sI, gR_sA, gR_sQ, gR_sL, gR_sD, gA_sI, gA_sR, gA_sQ, gA_sL, gA_sD, gQ_sI, gQ_sR, gQ_sA, gQ_sL, gQ_sD, gL_sI, gL_sR, gL_sA, gL_sQ, gL_sD, kd_nO, kd_nA, *]) (by first | assumption | exact gI_sIs | exact gR_sRs | with_reducible rfl | (simp only [kd_sI, kd_sR, kd_sA, kd_sQ, kd_sL, kd_sD, ln_sI, ln_sR, ln_sA, ln_sQ, ln_sL, ln_sD, gI_sR, gI_sA, gI_sQ, gI_sL, gI_sD, gR_sI, gR_sA, gR_sQ, gR_sL, gR_sD, gA_sI, gA_sR, gA_sQ, gA_sL, gA_sD, gQ_sI, gQ_sR, gQ_sA, gQ_sL, gQ_sD, gL_sI, gL_sR, gL_sA, gL_sQ, gL_sD]; first | done | assumption | with_reducible rfl) | rfl) ?_
          refine r_iconst (v := nI 1) dX2_needs_50 (by decide) ?_
          refine r_icmp_ne (tgt := 74) dX2_needs_51 (by decide) (fun h51 => ?_) (fun h51 => ?_)
          · exact skip (fun q => by simp [q.2] at h51)
          · have h2 : g (105 + 21 * i) = nI 1 := by simpa using h51
            rw [if_pos ⟨h1, h2⟩] at hs
            have hnl := needsF_len (g := g) (y := y) i
            refine r_aload_n (i := 2) dX2_needs_54 rfl rfl ?_
            refine r_aload_n (i := 0) dX2_needs_55 rfl rfl ?_
            refine r_aload dX2_needs_56 rfl ?_
            refine r_callV (As := [_]) (mc' := 1) (ms' := 4) dX2_needs_58 k_X2_250 rfl (by first | assumption | (simp only [kd_sI, kd_sR, kd_sA, kd_sQ, kd_sL, kd_sD, ln_sI, ln_sR, ln_sA, ln_sQ, ln_sL, ln_sD, gI_sR, gI_sA, gI_sQ, gI_sL, gI_sD, gR_sI, gR_sA, gR_sQ, gR_sL, gR_sD, gA_sI, gA_sR, gA_sQ, gA_sL, gA_sD, gQ_sI, gQ_sR, gQ_sA, gQ_sL, gQ_sD, gL_sI, gL_sR, gL_sA, gL_sQ, gL_sD]; assumption) | simp [kd_sI, kd_sR, kd_sA, kd_sQ, kd_sL, kd_sD, ln_sI, ln_sR, ln_sA, ln_sQ, ln_sL, ln_sD, gI_sR, gI_sA, gI_sQ, gI_sL, gI_sD, gR_sI, gR_sA, gR_sQ, gR_sL, gR_sD, gA_sI, gA_sR, gA_sQ, gA_sL, gA_sD, gQ_sI, gQ_sR, gQ_sA, gQ_sL, gQ_sD, gL_sI, gL_sR, gL_sA, gL_sQ, gL_sD, kd_nO, kd_nA, *]) (T := TX2) (N := 8) rfl (by first | assumption | omega) (by first | assumption | omega) (by first | assumption | omega) (Nat.le_of_ble_eq_true rfl) ?_
            refine pl_needed (by omega) hW5 hI9 (by omega) (fun H6 K6' => ?_)
            have K6 := K5.tr K6'
            obtain ⟨n1, n2⟩ := hN i (by omega)
            have hnd : ndF g i = nI (qn g i) := by
              unfold ndF
              rw [h2, if_neg (by decide), if_neg (by decide), n1]
            rw [hnd]
            show AW mX2_needs G d Qr Qx _ _ H6 61 _ _
            refine r_callS (As := [_]) (mc' := 1) (ms' := 1) dX2_needs_61 k_X2_92 rfl (by first | assumption | omega) (by first | assumption | omega) (by first | assumption | omega) (Nat.le_of_ble_eq_true rfl) ?_
            refine s_valueOf (by omega) (by omega) (fun H7 q K7' hq7 => ?_)
            refine AW.st0 (fun z7 => ?_)
            have K7 := K6.tr K7'
            have hL7 := (hL5.ks K6' (fun _ _ h => h.elim)).ks K7' (fun _ _ h => h.elim)
            have kq7 := hL7.1.1
            show AW mX2_needs G d Qr Qx _ _ H7 64 _ _
            refine r_callV (As := [_]) (mc' := 1) (ms' := 22) dX2_needs_64 k_X2_68 rfl (by first | assumption | (simp only [kd_sI, kd_sR, kd_sA, kd_sQ, kd_sL, kd_sD, ln_sI, ln_sR, ln_sA, ln_sQ, ln_sL, ln_sD, gI_sR, gI_sA, gI_sQ, gI_sL, gI_sD, gR_sI, gR_sA, gR_sQ, gR_sL, gR_sD, gA_sI, gA_sR, gA_sQ, gA_sL, gA_sD, gQ_sI, gQ_sR, gQ_sA, gQ_sL, gQ_sD, gL_sI, gL_sR, gL_sA, gL_sQ, gL_sD]; assumption) | simp [kd_sI, kd_sR, kd_sA, kd_sQ, kd_sL, kd_sD, ln_sI, ln_sR, ln_sA, ln_sQ, ln_sL, ln_sD, gI_sR, gI_sA, gI_sQ, gI_sL, gI_sD, gR_sI, gR_sA, gR_sQ, gR_sL, gR_sD, gA_sI, gA_sR, gA_sQ, gA_sL, gA_sD, gQ_sI, gQ_sR, gQ_sA, gQ_sL, gQ_sD, gL_sI, gL_sR, gL_sA, gL_sQ, gL_sD, kd_nO, kd_nA, *]) (T := TJ2) (N := 3) rfl (by first | assumption | omega) (by first | assumption | omega) (by first | assumption | omega) (Nat.le_of_ble_eq_true rfl) ?_
            refine s_add (by omega) hL7.1 (by omega) hq7.obj (fun H8 e8 hK8 he8 hL8 => ?_)
            have K8 : Ks (fun _ => False) H H8 := K7.tr2 hK8 (fun b hb q => q.elim (fun q => by rw [q] at hb; exact hb hq) (fun q => by rw [q] at hb; exact hb he))
            have nsl := sl_ne hL7.1 z7
            have hI7 : ItS H7 it A.ca (i + 1) := (hI5.ks K6' (fun h => h) (by rw [hW5.2.2.2.1.1.1]; decide) (fun h => h)).ks K7' (fun h => h) (by rw [(hW.k0 K6).2.2.2.1.1.1]; decide) (fun h => h)
            have hI8 : ItS H8 it A.ca (i + 1) := hI7.ks hK8 (nsl _ (by rw [hI7.1]; decide) (by rw [hI7.1]; decide) (by rw [hI7.1]; decide)) (by rw [(hW.k0 K7).2.2.2.1.1.1]; decide) (fun q => q.elim (fun q => by rw [q] at hCA0; rw [hq] at hCA0; omega) (fun q => by rw [q] at hCA0; rw [he] at hCA0; omega))
            show AW mX2_needs G d Qr Qx _ _ H8 67 _ _
            refine r_if_eq (tgt := 74) dX2_needs_67 (by decide) (fun h67 => ?_) (fun h67 => ?_)
            · exact absurd h67 (by decide)
            · refine r_iconst (v := nI 1) dX2_needs_70 (by decide) ?_
              refine r_goto (tgt := 75) dX2_needs_71 (by decide) ?_
              refine r_istore dX2_needs_75 (Nat.le_of_ble_eq_true rfl) (by simp only [lset]; rfl) ?_
              refine r_goto (tgt := 16) dX2_needs_77 (by decide) ?_
              exact ih (i + 1) _ _ H8 e8 _ _ _ (by omega) (by omega) (by omega) K8 hI8 (he8.elim (fun h => by rw [h]; exact he) (fun h => K7.fr h)) (by rw [hs]; exact hL7.app z7 hq7 hK8 hL8)
  exact loop (nat g 101) 0 _ _ H3 _ (fun _ => 0) _ _ (by omega) (by omega) (by omega) K3 hI3 z0 ⟨hL3, fun i hi => absurd hi (Nat.not_lt_zero i)⟩
theorem pl_rests2 {y : Int32} (hd : 8 ≤ d) (hW : PW G H p A g eT ty eR tr tc tf tu eC ca rl re st eD dr) (hI9 : IG g) (hQ : ∀ H' L e xs, Ks (fun _ => False) H H' → IL G H' L e xs (restsF g y (nat g 354)) → Qr (some (vR (some L))) H') : AMet G d 22 237 yX2_rests_2 wX2_rests_2 H [vR (some p), vI y] Qr Qx := by
  have hB := hI9.1
  have hD := hI9.2.2.2.2.1
  have h354 := hB.2.2.2.1.2
  have hDR0 := hW.2.2.2.2.1.1
  refine AMet.of (M := mX2_rests_2) (maxL := 6) (by first | rfl | decide +kernel) rfl (Nat.le_of_ble_eq_true rfl) ?_
  show AW mX2_rests_2 _ _ _ _ _ _ _ 0 [some (vR (some p)), some (vI y), none, none, none, none] []
  refine AW.st0 (fun z0 => ?_)
  refine r_new dX2_rests_2_0 cT_J2 q155 q156 q87 (by decide +kernel) (by first | assumption | omega) (by first | assumption | omega) (fun q0 hq0 => ?_)
  refine r_dup dX2_rests_2_3 rfl ?_
  have hq : kd H q0 = 0 := hq0
  refine AW.name (fun H1 hH1 => ?_)
  have K1 : Ks (fun _ => False) H H1 := by rw [hH1]; exact Ks.rf.nO hq
  have kq : kd H1 q0 = 20 := by rw [hH1, kd_nO, if_pos rfl]
  have zq : gI H1 97 q0 = 0 := by rw [hH1, gI_nO, if_pos rfl]
  refine r_callI (As := []) (mc' := 0) (ms' := 0) dX2_rests_2_4 k_X2_11 rfl (by first | assumption | omega) (by first | assumption | omega) (by first | assumption | omega) (Nat.le_of_ble_eq_true rfl) ?_
  refine s_lsInit (xs := fun _ => 0) (by omega) kq zq (fun H2 hK2 hL2 => ?_)
  have K2 : Ks (fun _ => False) H H2 := K1.tr2 hK2 (fun a ha e => by rw [e] at ha; exact ha hq)
  have hW2 := hW.k0 K2
  have kp2 := hW2.1.1
  have r12 := hW2.1.2.2.2.2.2.1
  have kD2 := hW2.2.2.2.2.1.1
  show AW mX2_rests_2 G d Qr Qx _ _ H2 7 _ _
  refine r_astore_n (i := 2) dX2_rests_2_7 rfl (Nat.le_of_ble_eq_true rfl) (by simp only [lset]; rfl) ?_
  refine r_aload_n (i := 0) dX2_rests_2_8 rfl rfl ?_
  refine r_getR dX2_rests_2_9 fR_X2_31 (by first | assumption | (simp only [kd_sI, kd_sR, kd_sA, kd_sQ, kd_sL, kd_sD, ln_sI, ln_sR, ln_sA, ln_sQ, ln_sL, ln_sD, gI_sR, gI_sA, gI_sQ, gI_sL, gI_sD, gR_sI, gR_sA, gR_sQ, gR_sL, gR_sD, gA_sI, gA_sR, gA_sQ, gA_sL, gA_sD, gQ_sI, gQ_sR, gQ_sA, gQ_sL, gQ_sD, gL_sI, gL_sR, gL_sA, gL_sQ, gL_sD]; assumption) | simp [kd_sI, kd_sR, kd_sA, kd_sQ, kd_sL, kd_sD, ln_sI, ln_sR, ln_sA, ln_sQ, ln_sL, ln_sD, gI_sR, gI_sA, gI_sQ, gI_sL, gI_sD, gR_sI, gR_sA, gR_sQ, gR_sL, gR_sD, gA_sI, gA_sR, gA_sQ, gA_sL, gA_sD, gQ_sI, gQ_sR, gQ_sA, gQ_sL, gQ_sD, gL_sI, gL_sR, gL_sA, gL_sQ, gL_sD, kd_nO, kd_nA, *]) (by first | assumption | exact gI_sIs | exact gR_sRs | with_reducible rfl | (simp only [kd_sI, kd_sR, kd_sA, kd_sQ, kd_sL, kd_sD, ln_sI, ln_sR, ln_sA, ln_sQ, ln_sL, ln_sD, gI_sR, gI_sA, gI_sQ, gI_sL, gI_sD, gR_sI, gR_sA, gR_sQ, gR_sL, gR_sD, gA_sI, gA_sR, gA_sQ, gA_sL, gA_sD, gQ_sI, gQ_sR, gQ_sA, gQ_sL, gQ_sD, gL_sI, gL_sR, gL_sA, gL_sQ, gL_sD]; first | done | assumption | with_reducible rfl) | rfl) ?_
  refine r_callV (As := []) (mc' := 1) (ms' := 4) dX2_rests_2_12 k_X2_42 rfl (by first | assumption | (simp only [kd_sI, kd_sR, kd_sA, kd_sQ, kd_sL, kd_sD, ln_sI, ln_sR, ln_sA, ln_sQ, ln_sL, ln_sD, gI_sR, gI_sA, gI_sQ, gI_sL, gI_sD, gR_sI, gR_sA, gR_sQ, gR_sL, gR_sD, gA_sI, gA_sR, gA_sQ, gA_sL, gA_sD, gQ_sI, gQ_sR, gQ_sA, gQ_sL, gQ_sD, gL_sI, gL_sR, gL_sA, gL_sQ, gL_sD]; assumption) | simp [kd_sI, kd_sR, kd_sA, kd_sQ, kd_sL, kd_sD, ln_sI, ln_sR, ln_sA, ln_sQ, ln_sL, ln_sD, gI_sR, gI_sA, gI_sQ, gI_sL, gI_sD, gR_sI, gR_sA, gR_sQ, gR_sL, gR_sD, gA_sI, gA_sR, gA_sQ, gA_sL, gA_sD, gQ_sI, gQ_sR, gQ_sA, gQ_sL, gQ_sD, gL_sI, gL_sR, gL_sA, gL_sQ, gL_sD, kd_nO, kd_nA, *]) (T := TJ2) (N := 3) rfl (by first | assumption | omega) (by first | assumption | omega) (by first | assumption | omega) (Nat.le_of_ble_eq_true rfl) ?_
  refine s_iterator (by omega) kD2 (fun H3 it hit hK3 hI3 => ?_)
  have K3 := K2.tr hK3
  have hit0 : kd H it = 0 := K2.fr hit
  have hL3 := hL2.ks hK3 (fun h => h) (fun _ h => h)
  show AW mX2_rests_2 G d Qr Qx _ _ H3 15 _ _
  refine r_astore_n (i := 3) dX2_rests_2_15 rfl (Nat.le_of_ble_eq_true rfl) (by simp only [lset]; rfl) ?_
  have loop : ∀ (k i rc rs : Nat) (H4 : AH) (e : Nat) (xs : Nat → Nat) (l4 l5 : Option AV), i + k = nat g 354 → 2 * k ≤ rc → 23 * k ≤ rs → Ks (fun _ => False) H H4 → ItS H4 it A.dr i → kd H e = 0 → IL G H4 q0 e xs (restsF g y i) → AW mX2_rests_2 G d Qr Qx rc rs H4 16 [some (vR (some p)), some (vI y), some (vR (some q0)), some (vR (some it)), l4, l5] [] := by
    intro k
    induction k with
    | zero =>
      intro i rc rs H4 e xs l4 l5 hi hrc hrs K4 hI4 he hL4
      have hW4 := hW.k0 K4
      have ki := hI4.1
      refine r_aload_n (i := 3) dX2_rests_2_16 rfl rfl ?_
      refine r_callF (As := []) (mc' := 0) (ms' := 0) dX2_rests_2_17 k_X2_46_J14 rfl (by first | assumption | (simp only [kd_sI, kd_sR, kd_sA, kd_sQ, kd_sL, kd_sD, ln_sI, ln_sR, ln_sA, ln_sQ, ln_sL, ln_sD, gI_sR, gI_sA, gI_sQ, gI_sL, gI_sD, gR_sI, gR_sA, gR_sQ, gR_sL, gR_sD, gA_sI, gA_sR, gA_sQ, gA_sL, gA_sD, gQ_sI, gQ_sR, gQ_sA, gQ_sL, gQ_sD, gL_sI, gL_sR, gL_sA, gL_sQ, gL_sD]; assumption) | simp [kd_sI, kd_sR, kd_sA, kd_sQ, kd_sL, kd_sD, ln_sI, ln_sR, ln_sA, ln_sQ, ln_sL, ln_sD, gI_sR, gI_sA, gI_sQ, gI_sL, gI_sD, gR_sI, gR_sA, gR_sQ, gR_sL, gR_sD, gA_sI, gA_sR, gA_sQ, gA_sL, gA_sD, gQ_sI, gQ_sR, gQ_sA, gQ_sL, gQ_sD, gL_sI, gL_sR, gL_sA, gL_sQ, gL_sD, kd_nO, kd_nA, *]) (T := TJ14) (N := 4) rfl (by first | assumption | omega) (by first | assumption | omega) (by first | assumption | omega) (Nat.le_of_ble_eq_true rfl) ?_
      refine s_hasNext hI4 hW4.2.2.2.2.1.1 hW4.2.2.2.2.1.2.1 (by omega) (by omega) ?_
      rw [if_pos (by omega)]
      show AW mX2_rests_2 G d Qr Qx _ _ H4 22 _ _
      refine r_if_eq (tgt := 100) dX2_rests_2_22 (by decide) (fun h22 => ?_) (fun h22 => ?_)
      · refine r_aload_n (i := 2) dX2_rests_2_100 rfl rfl ?_
        refine r_areturn dX2_rests_2_101 rfl (by first | exact Or.inl ⟨_, rfl⟩ | exact Or.inr ⟨_, rfl⟩) ?_
        refine hQ H4 q0 e xs K4 ?_
        rw [← show i = nat g 354 by omega]
        exact hL4
      · exact absurd rfl h22
    | succ k ih =>
      intro i rc rs H4 e xs l4 l5 hi hrc hrs K4 hI4 he hL4
      have hW4 := hW.k0 K4
      have ki := hI4.1
      refine r_aload_n (i := 3) dX2_rests_2_16 rfl rfl ?_
      refine r_callF (As := []) (mc' := 0) (ms' := 0) dX2_rests_2_17 k_X2_46_J14 rfl (by first | assumption | (simp only [kd_sI, kd_sR, kd_sA, kd_sQ, kd_sL, kd_sD, ln_sI, ln_sR, ln_sA, ln_sQ, ln_sL, ln_sD, gI_sR, gI_sA, gI_sQ, gI_sL, gI_sD, gR_sI, gR_sA, gR_sQ, gR_sL, gR_sD, gA_sI, gA_sR, gA_sQ, gA_sL, gA_sD, gQ_sI, gQ_sR, gQ_sA, gQ_sL, gQ_sD, gL_sI, gL_sR, gL_sA, gL_sQ, gL_sD]; assumption) | simp [kd_sI, kd_sR, kd_sA, kd_sQ, kd_sL, kd_sD, ln_sI, ln_sR, ln_sA, ln_sQ, ln_sL, ln_sD, gI_sR, gI_sA, gI_sQ, gI_sL, gI_sD, gR_sI, gR_sA, gR_sQ, gR_sL, gR_sD, gA_sI, gA_sR, gA_sQ, gA_sL, gA_sD, gQ_sI, gQ_sR, gQ_sA, gQ_sL, gQ_sD, gL_sI, gL_sR, gL_sA, gL_sQ, gL_sD, kd_nO, kd_nA, *]) (T := TJ14) (N := 4) rfl (by first | assumption | omega) (by first | assumption | omega) (by first | assumption | omega) (Nat.le_of_ble_eq_true rfl) ?_
      refine s_hasNext hI4 hW4.2.2.2.2.1.1 hW4.2.2.2.2.1.2.1 (by omega) (by omega) ?_
      rw [if_neg (by omega)]
      show AW mX2_rests_2 G d Qr Qx _ _ H4 22 _ _
      refine r_if_eq (tgt := 100) dX2_rests_2_22 (by decide) (fun h22 => ?_) (fun h22 => ?_)
      · exact absurd (show (nI 1 : Int32) = 0 by simpa using h22) (by decide)
      · refine r_aload_n (i := 3) dX2_rests_2_25 rfl rfl ?_
        refine r_callF (As := []) (mc' := 0) (ms' := 0) dX2_rests_2_26 k_X2_52_J14 rfl (by first | assumption | (simp only [kd_sI, kd_sR, kd_sA, kd_sQ, kd_sL, kd_sD, ln_sI, ln_sR, ln_sA, ln_sQ, ln_sL, ln_sD, gI_sR, gI_sA, gI_sQ, gI_sL, gI_sD, gR_sI, gR_sA, gR_sQ, gR_sL, gR_sD, gA_sI, gA_sR, gA_sQ, gA_sL, gA_sD, gQ_sI, gQ_sR, gQ_sA, gQ_sL, gQ_sD, gL_sI, gL_sR, gL_sA, gL_sQ, gL_sD]; assumption) | simp [kd_sI, kd_sR, kd_sA, kd_sQ, kd_sL, kd_sD, ln_sI, ln_sR, ln_sA, ln_sQ, ln_sL, ln_sD, gI_sR, gI_sA, gI_sQ, gI_sL, gI_sD, gR_sI, gR_sA, gR_sQ, gR_sL, gR_sD, gA_sI, gA_sR, gA_sQ, gA_sL, gA_sD, gQ_sI, gQ_sR, gQ_sA, gQ_sL, gQ_sD, gL_sI, gL_sR, gL_sA, gL_sQ, gL_sD, kd_nO, kd_nA, *]) (T := TJ14) (N := 4) rfl (by first | assumption | omega) (by first | assumption | omega) (by first | assumption | omega) (Nat.le_of_ble_eq_true rfl) ?_
        refine s_next (by omega) hI4 hW4.2.2.2.2.1 (by omega) (by omega) (fun H5 hK5 hI5 => ?_)
        refine AW.st0 (fun z5 => ?_)
        have K5 : Ks (fun _ => False) H H5 := K4.tr2 hK5 (fun a ha e => by rw [e] at ha; exact ha hit0)
        have hW5 := hW.k0 K5
        have kp5 := hW5.1.1
        have hL5 := hL4.ks hK5 (fun a _ e => by rw [e, ki]; decide)
        have hx := hW5.2.2.2.2.2 i (by omega)
        have kx := hx.1
        have f30 := hx.2.1
        obtain ⟨x1, x2⟩ := hD i (by omega)
        obtain ⟨r, hr⟩ : ∃ r, nat g (356 + 3 * i) = r := ⟨_, rfl⟩
        rw [hr] at x1 x2
        have f32 : gI H5 32 (dr i) = nI r := hx.2.2.2.trans x1
        have kq5 := hL5.1.1
        have hs : restsF g y (i + 1) = if g (355 + 3 * i) = y then insD (restsF g y i) (nat g (356 + 3 * i)) else restsF g y i := rfl
        have hlen := restsF_len (g := g) (y := y) i
        have hlt := restsF_lt (y := y) hD i (by omega)
        show AW mX2_rests_2 G d Qr Qx _ _ H5 31 _ _
        refine r_cast dX2_rests_2_31 (by first | assumption | (simp only [kd_sI, kd_sR, kd_sA, kd_sQ, kd_sL, kd_sD, ln_sI, ln_sR, ln_sA, ln_sQ, ln_sL, ln_sD, gI_sR, gI_sA, gI_sQ, gI_sL, gI_sD, gR_sI, gR_sA, gR_sQ, gR_sL, gR_sD, gA_sI, gA_sR, gA_sQ, gA_sL, gA_sD, gQ_sI, gQ_sR, gQ_sA, gQ_sL, gQ_sD, gL_sI, gL_sR, gL_sA, gL_sQ, gL_sD]; assumption) | simp [kd_sI, kd_sR, kd_sA, kd_sQ, kd_sL, kd_sD, ln_sI, ln_sR, ln_sA, ln_sQ, ln_sL, ln_sD, gI_sR, gI_sA, gI_sQ, gI_sL, gI_sD, gR_sI, gR_sA, gR_sQ, gR_sL, gR_sD, gA_sI, gA_sR, gA_sQ, gA_sL, gA_sD, gQ_sI, gQ_sR, gQ_sA, gQ_sL, gQ_sD, gL_sI, gL_sR, gL_sA, gL_sQ, gL_sD, kd_nO, kd_nA, *]) (T := TX6) (N := 3) rfl q1217 (Or.inl rfl) ?_
        refine r_astore dX2_rests_2_34 (Nat.le_of_ble_eq_true rfl) (by simp only [lset]; rfl) ?_
        refine r_aload dX2_rests_2_36 rfl ?_
        refine r_getI dX2_rests_2_38 fR_X2_281 (by first | assumption | (simp only [kd_sI, kd_sR, kd_sA, kd_sQ, kd_sL, kd_sD, ln_sI, ln_sR, ln_sA, ln_sQ, ln_sL, ln_sD, gI_sR, gI_sA, gI_sQ, gI_sL, gI_sD, gR_sI, gR_sA, gR_sQ, gR_sL, gR_sD, gA_sI, gA_sR, gA_sQ, gA_sL, gA_sD, gQ_sI, gQ_sR, gQ_sA, gQ_sL, gQ_sD, gL_sI, gL_sR, gL_sA, gL_sQ, gL_sD]; assumption) | simp [kd_sI, kd_sR, kd_sA, kd_sQ, kd_sL, kd_sD, ln_sI, ln_sR, ln_sA, ln_sQ, ln_sL, ln_sD, gI_sR, gI_sA, gI_sQ, gI_sL, gI_sD, gR_sI, gR_sA, gR_sQ, gR_sL, gR_sD, gA_sI, gA_sR, gA_sQ, gA_sL, gA_sD, gQ_sI, gQ_sR, gQ_sA, gQ_sL, gQ_sD, gL_sI, gL_sR, gL_sA, gL_sQ, gL_sD, kd_nO, kd_nA, *]) (by first | assumption | exact gI_sIs | exact gR_sRs | with_reducible rfl | (simp only [kd_sI, kd_sR, kd_sA, kd_sQ, kd_sL, kd_sD, ln_sI, ln_sR, ln_sA, ln_sQ, ln_sL, ln_sD, gI_sR, gI_sA, gI_sQ, gI_sL, gI_sD, gR_sI, gR_sA, gR_sQ, gR_sL, gR_sD, gA_sI, gA_sR, gA_sQ, gA_sL, gA_sD, gQ_sI, gQ_sR, gQ_sA, gQ_sL, gQ_sD, gL_sI, gL_sR, gL_sA, gL_sQ, gL_sD]; first | done | assumption | with_reducible rfl) | rfl) ?_
        refine r_iload_n (i := 1) dX2_rests_2_41 rfl rfl ?_
        refine r_icmp_ne (tgt := 97) dX2_rests_2_42 (by decide) (fun h42 => ?_) (fun h42 => ?_)
        · rw [if_neg (by simpa using h42)] at hs
          refine r_goto (tgt := 16) dX2_rests_2_97 (by decide) ?_
          exact ih (i + 1) _ _ H5 e xs _ _ (by omega) (by omega) (by omega) K5 hI5 he (by rw [hs]; exact hL5)
        · rw [if_pos (by simpa using h42), hr] at hs
          obtain ⟨l, hl⟩ : ∃ l, restsF g y i = l := ⟨_, rfl⟩
          rw [hl] at hL5 hs hlen hlt
          refine r_iconst (v := nI 0) dX2_rests_2_45 (by decide) ?_
          refine r_istore dX2_rests_2_46 (Nat.le_of_ble_eq_true rfl) (by simp only [lset]; rfl) ?_
          have done : ∀ j, j ≤ l.length → (∀ x, x < j → r ≤ l.getD x 0) → (j = l.length ∨ l.getD j 0 < r) → AW mX2_rests_2 G d Qr Qx rc rs H5 83 [some (vR (some p)), some (vI y), some (vR (some q0)), some (vR (some it)), some (vR (some (dr i))), some (vI (nI j))] [] := by
            intro j hj h1 h2
            rw [insD_first l j r hj h1 h2] at hs
            refine r_aload_n (i := 2) dX2_rests_2_83 rfl rfl ?_
            refine r_iload dX2_rests_2_84 rfl ?_
            refine r_aload dX2_rests_2_86 rfl ?_
            refine r_getI dX2_rests_2_88 fR_X2_282 (by first | assumption | (simp only [kd_sI, kd_sR, kd_sA, kd_sQ, kd_sL, kd_sD, ln_sI, ln_sR, ln_sA, ln_sQ, ln_sL, ln_sD, gI_sR, gI_sA, gI_sQ, gI_sL, gI_sD, gR_sI, gR_sA, gR_sQ, gR_sL, gR_sD, gA_sI, gA_sR, gA_sQ, gA_sL, gA_sD, gQ_sI, gQ_sR, gQ_sA, gQ_sL, gQ_sD, gL_sI, gL_sR, gL_sA, gL_sQ, gL_sD]; assumption) | simp [kd_sI, kd_sR, kd_sA, kd_sQ, kd_sL, kd_sD, ln_sI, ln_sR, ln_sA, ln_sQ, ln_sL, ln_sD, gI_sR, gI_sA, gI_sQ, gI_sL, gI_sD, gR_sI, gR_sA, gR_sQ, gR_sL, gR_sD, gA_sI, gA_sR, gA_sQ, gA_sL, gA_sD, gQ_sI, gQ_sR, gQ_sA, gQ_sL, gQ_sD, gL_sI, gL_sR, gL_sA, gL_sQ, gL_sD, kd_nO, kd_nA, *]) (by first | assumption | exact gI_sIs | exact gR_sRs | with_reducible rfl | (simp only [kd_sI, kd_sR, kd_sA, kd_sQ, kd_sL, kd_sD, ln_sI, ln_sR, ln_sA, ln_sQ, ln_sL, ln_sD, gI_sR, gI_sA, gI_sQ, gI_sL, gI_sD, gR_sI, gR_sA, gR_sQ, gR_sL, gR_sD, gA_sI, gA_sR, gA_sQ, gA_sL, gA_sD, gQ_sI, gQ_sR, gQ_sA, gQ_sL, gQ_sD, gL_sI, gL_sR, gL_sA, gL_sQ, gL_sD]; first | done | assumption | with_reducible rfl) | rfl) ?_
            refine r_callS (As := [_]) (mc' := 1) (ms' := 1) dX2_rests_2_91 k_X2_92 rfl (by first | assumption | omega) (by first | assumption | omega) (by first | assumption | omega) (Nat.le_of_ble_eq_true rfl) ?_
            refine s_valueOf (by omega) (by omega) (fun H7 q K7' hq7 => ?_)
            refine AW.st0 (fun z7 => ?_)
            have K7 := K5.tr K7'
            have hL7 := hL5.ks K7' (fun _ _ h => h.elim)
            have kq7 := hL7.1.1
            show AW mX2_rests_2 G d Qr Qx _ _ H7 94 _ _
            refine r_callV (As := [_, _]) (mc' := 1) (ms' := 22) dX2_rests_2_94 k_X2_295 rfl (by first | assumption | (simp only [kd_sI, kd_sR, kd_sA, kd_sQ, kd_sL, kd_sD, ln_sI, ln_sR, ln_sA, ln_sQ, ln_sL, ln_sD, gI_sR, gI_sA, gI_sQ, gI_sL, gI_sD, gR_sI, gR_sA, gR_sQ, gR_sL, gR_sD, gA_sI, gA_sR, gA_sQ, gA_sL, gA_sD, gQ_sI, gQ_sR, gQ_sA, gQ_sL, gQ_sD, gL_sI, gL_sR, gL_sA, gL_sQ, gL_sD]; assumption) | simp [kd_sI, kd_sR, kd_sA, kd_sQ, kd_sL, kd_sD, ln_sI, ln_sR, ln_sA, ln_sQ, ln_sL, ln_sD, gI_sR, gI_sA, gI_sQ, gI_sL, gI_sD, gR_sI, gR_sA, gR_sQ, gR_sL, gR_sD, gA_sI, gA_sR, gA_sQ, gA_sL, gA_sD, gQ_sI, gQ_sR, gQ_sA, gQ_sL, gQ_sD, gL_sI, gL_sR, gL_sA, gL_sQ, gL_sD, kd_nO, kd_nA, *]) (T := TJ2) (N := 3) rfl (by first | assumption | omega) (by first | assumption | omega) (by first | assumption | omega) (Nat.le_of_ble_eq_true rfl) ?_
            refine s_addAt (by omega) hL7.1 hj (by omega) hq7.obj (fun H8 e8 hK8 he8 hL8 => ?_)
            have K8 : Ks (fun _ => False) H H8 := K7.tr2 hK8 (fun b hb q => q.elim (fun q => by rw [q] at hb; exact hb hq) (fun q => by rw [q] at hb; exact hb he))
            have nsl := sl_ne hL7.1 z7
            have hI7 : ItS H7 it A.dr (i + 1) := hI5.ks K7' (fun h => h) (by rw [hW5.2.2.2.2.1.1]; decide) (fun h => h)
            have hI8 : ItS H8 it A.dr (i + 1) := hI7.ks hK8 (nsl _ (by rw [hI7.1]; decide) (by rw [hI7.1]; decide) (by rw [hI7.1]; decide)) (by rw [(hW.k0 K7).2.2.2.2.1.1]; decide) (fun q => q.elim (fun q => by rw [q] at hDR0; rw [hq] at hDR0; omega) (fun q => by rw [q] at hDR0; rw [he] at hDR0; omega))
            show AW mX2_rests_2 G d Qr Qx _ _ H8 97 _ _
            refine r_goto (tgt := 16) dX2_rests_2_97 (by decide) ?_
            exact ih (i + 1) _ _ H8 e8 _ _ _ (by omega) (by omega) (by omega) K8 hI8 (he8.elim (fun h => by rw [h]; exact he) (fun h => K7.fr h)) (by rw [hs]; exact hL7.ins z7 hj hq7 hK8 hL8)
          have inner : ∀ (k9 j : Nat), j + k9 = l.length → (∀ x, x < j → r ≤ l.getD x 0) → AW mX2_rests_2 G d Qr Qx rc rs H5 48 [some (vR (some p)), some (vI y), some (vR (some q0)), some (vR (some it)), some (vR (some (dr i))), some (vI (nI j))] [] := by
            intro k9
            induction k9 with
            | zero =>
              intro j hj h1
              refine r_iload dX2_rests_2_48 rfl ?_
              refine r_aload_n (i := 2) dX2_rests_2_50 rfl rfl ?_
              refine r_callV (As := []) (mc' := 0) (ms' := 0) dX2_rests_2_51 k_X2_88 rfl (by first | assumption | (simp only [kd_sI, kd_sR, kd_sA, kd_sQ, kd_sL, kd_sD, ln_sI, ln_sR, ln_sA, ln_sQ, ln_sL, ln_sD, gI_sR, gI_sA, gI_sQ, gI_sL, gI_sD, gR_sI, gR_sA, gR_sQ, gR_sL, gR_sD, gA_sI, gA_sR, gA_sQ, gA_sL, gA_sD, gQ_sI, gQ_sR, gQ_sA, gQ_sL, gQ_sD, gL_sI, gL_sR, gL_sA, gL_sQ, gL_sD]; assumption) | simp [kd_sI, kd_sR, kd_sA, kd_sQ, kd_sL, kd_sD, ln_sI, ln_sR, ln_sA, ln_sQ, ln_sL, ln_sD, gI_sR, gI_sA, gI_sQ, gI_sL, gI_sD, gR_sI, gR_sA, gR_sQ, gR_sL, gR_sD, gA_sI, gA_sR, gA_sQ, gA_sL, gA_sD, gQ_sI, gQ_sR, gQ_sA, gQ_sL, gQ_sD, gL_sI, gL_sR, gL_sA, gL_sQ, gL_sD, kd_nO, kd_nA, *]) (T := TJ2) (N := 3) rfl (by first | assumption | omega) (by first | assumption | omega) (by first | assumption | omega) (Nat.le_of_ble_eq_true rfl) ?_
              refine s_size hL5.1.1 hL5.1.2.1 ?_
              show AW mX2_rests_2 G d Qr Qx _ _ H5 54 _ _
              refine r_icmp_ge (tgt := 83) dX2_rests_2_54 (by decide) (fun h54 => ?_) (fun h54 => ?_)
              · exact done j (by omega) h1 (Or.inl (by omega))
              · exact absurd (nI_le (by omega) (by omega)) h54
            | succ k9 ih9 =>
              intro j hj h1
              have hjl : j < l.length := by omega
              have hvj := hL5.2 j hjl
              have hb := hlt _ (getD_mem hjl)
              refine r_iload dX2_rests_2_48 rfl ?_
              refine r_aload_n (i := 2) dX2_rests_2_50 rfl rfl ?_
              refine r_callV (As := []) (mc' := 0) (ms' := 0) dX2_rests_2_51 k_X2_88 rfl (by first | assumption | (simp only [kd_sI, kd_sR, kd_sA, kd_sQ, kd_sL, kd_sD, ln_sI, ln_sR, ln_sA, ln_sQ, ln_sL, ln_sD, gI_sR, gI_sA, gI_sQ, gI_sL, gI_sD, gR_sI, gR_sA, gR_sQ, gR_sL, gR_sD, gA_sI, gA_sR, gA_sQ, gA_sL, gA_sD, gQ_sI, gQ_sR, gQ_sA, gQ_sL, gQ_sD, gL_sI, gL_sR, gL_sA, gL_sQ, gL_sD]; assumption) | simp [kd_sI, kd_sR, kd_sA, kd_sQ, kd_sL, kd_sD, ln_sI, ln_sR, ln_sA, ln_sQ, ln_sL, ln_sD, gI_sR, gI_sA, gI_sQ, gI_sL, gI_sD, gR_sI, gR_sA, gR_sQ, gR_sL, gR_sD, gA_sI, gA_sR, gA_sQ, gA_sL, gA_sD, gQ_sI, gQ_sR, gQ_sA, gQ_sL, gQ_sD, gL_sI, gL_sR, gL_sA, gL_sQ, gL_sD, kd_nO, kd_nA, *]) (T := TJ2) (N := 3) rfl (by first | assumption | omega) (by first | assumption | omega) (by first | assumption | omega) (Nat.le_of_ble_eq_true rfl) ?_
              refine s_size hL5.1.1 hL5.1.2.1 ?_
              show AW mX2_rests_2 G d Qr Qx _ _ H5 54 _ _
              refine r_icmp_ge (tgt := 83) dX2_rests_2_54 (by decide) (fun h54 => ?_) (fun h54 => ?_)
              · exact absurd h54 (nI_ge (by omega) (by omega))
              · refine r_aload_n (i := 2) dX2_rests_2_57 rfl rfl ?_
                refine r_iload dX2_rests_2_58 rfl ?_
                refine r_callV (As := [_]) (mc' := 0) (ms' := 0) dX2_rests_2_60 k_X2_110 rfl (by first | assumption | (simp only [kd_sI, kd_sR, kd_sA, kd_sQ, kd_sL, kd_sD, ln_sI, ln_sR, ln_sA, ln_sQ, ln_sL, ln_sD, gI_sR, gI_sA, gI_sQ, gI_sL, gI_sD, gR_sI, gR_sA, gR_sQ, gR_sL, gR_sD, gA_sI, gA_sR, gA_sQ, gA_sL, gA_sD, gQ_sI, gQ_sR, gQ_sA, gQ_sL, gQ_sD, gL_sI, gL_sR, gL_sA, gL_sQ, gL_sD]; assumption) | simp [kd_sI, kd_sR, kd_sA, kd_sQ, kd_sL, kd_sD, ln_sI, ln_sR, ln_sA, ln_sQ, ln_sL, ln_sD, gI_sR, gI_sA, gI_sQ, gI_sL, gI_sD, gR_sI, gR_sA, gR_sQ, gR_sL, gR_sD, gA_sI, gA_sR, gA_sQ, gA_sL, gA_sD, gQ_sI, gQ_sR, gQ_sA, gQ_sL, gQ_sD, gL_sI, gL_sR, gL_sA, gL_sQ, gL_sD, kd_nO, kd_nA, *]) (T := TJ2) (N := 3) rfl (by first | assumption | omega) (by first | assumption | omega) (by first | assumption | omega) (Nat.le_of_ble_eq_true rfl) ?_
                refine s_get (by omega) hL5.1 hjl (by omega) ?_
                show AW mX2_rests_2 G d Qr Qx _ _ H5 63 _ _
                have go : AW mX2_rests_2 G d Qr Qx rc rs H5 69 [some (vR (some p)), some (vI y), some (vR (some q0)), some (vR (some it)), some (vR (some (dr i))), some (vI (nI j))] [vI (nI (l.getD j 0))] := by
                  refine r_aload dX2_rests_2_69 rfl ?_
                  refine r_getI dX2_rests_2_71 fR_X2_282 (by first | assumption | (simp only [kd_sI, kd_sR, kd_sA, kd_sQ, kd_sL, kd_sD, ln_sI, ln_sR, ln_sA, ln_sQ, ln_sL, ln_sD, gI_sR, gI_sA, gI_sQ, gI_sL, gI_sD, gR_sI, gR_sA, gR_sQ, gR_sL, gR_sD, gA_sI, gA_sR, gA_sQ, gA_sL, gA_sD, gQ_sI, gQ_sR, gQ_sA, gQ_sL, gQ_sD, gL_sI, gL_sR, gL_sA, gL_sQ, gL_sD]; assumption) | simp [kd_sI, kd_sR, kd_sA, kd_sQ, kd_sL, kd_sD, ln_sI, ln_sR, ln_sA, ln_sQ, ln_sL, ln_sD, gI_sR, gI_sA, gI_sQ, gI_sL, gI_sD, gR_sI, gR_sA, gR_sQ, gR_sL, gR_sD, gA_sI, gA_sR, gA_sQ, gA_sL, gA_sD, gQ_sI, gQ_sR, gQ_sA, gQ_sL, gQ_sD, gL_sI, gL_sR, gL_sA, gL_sQ, gL_sD, kd_nO, kd_nA, *]) (by first | assumption | exact gI_sIs | exact gR_sRs | with_reducible rfl | (simp only [kd_sI, kd_sR, kd_sA, kd_sQ, kd_sL, kd_sD, ln_sI, ln_sR, ln_sA, ln_sQ, ln_sL, ln_sD, gI_sR, gI_sA, gI_sQ, gI_sL, gI_sD, gR_sI, gR_sA, gR_sQ, gR_sL, gR_sD, gA_sI, gA_sR, gA_sQ, gA_sL, gA_sD, gQ_sI, gQ_sR, gQ_sA, gQ_sL, gQ_sD, gL_sI, gL_sR, gL_sA, gL_sQ, gL_sD]; first | done | assumption | with_reducible rfl) | rfl) ?_
                  refine r_icmp_lt (tgt := 83) dX2_rests_2_74 (by decide) (fun h74 => ?_) (fun h74 => ?_)
                  · have hlt9 := (nI_ltI (by omega) (by omega)).mp h74
                    exact done j (by omega) h1 (Or.inr hlt9)
                  · have hle9 : ¬ l.getD j 0 < r := fun q => h74 (nI_lt q (by omega))
                    refine r_iinc dX2_rests_2_77 rfl (by first | exact nI_1 _ | rfl) (by simp only [lset]; rfl) ?_
                    refine r_goto (tgt := 48) dX2_rests_2_80 (by decide) ?_
                    refine ih9 (j + 1) (by omega) (fun x hx => ?_)
                    by_cases e9 : x = j
                    · rw [e9]; omega
                    · exact h1 x (by omega)
                rcases hvj with ⟨j9, hj9, ej9, hv9⟩ | ⟨k26, f121⟩
                · rw [ej9]
                  refine r_castI dX2_rests_2_63 (by first | assumption | omega) (by first | assumption | exact gI_sIs | exact gR_sRs | with_reducible rfl | (simp only [kd_sI, kd_sR, kd_sA, kd_sQ, kd_sL, kd_sD, ln_sI, ln_sR, ln_sA, ln_sQ, ln_sL, ln_sD, gI_sR, gI_sA, gI_sQ, gI_sL, gI_sD, gR_sI, gR_sA, gR_sQ, gR_sL, gR_sD, gA_sI, gA_sR, gA_sQ, gA_sL, gA_sD, gQ_sI, gQ_sR, gQ_sA, gQ_sL, gQ_sD, gL_sI, gL_sR, gL_sA, gL_sQ, gL_sD]; first | done | assumption | with_reducible rfl) | rfl) q1052 (Or.inl rfl) ?_
                  refine r_callVI (As := []) (mc' := 0) (ms' := 0) (j9 := j9) dX2_rests_2_66 k_X2_117 rfl rfl (by first | assumption | omega) rfl (by first | assumption | omega) (by first | assumption | omega) (by first | assumption | omega) (Nat.le_of_ble_eq_true rfl) ?_
                  refine s_intValue (Or.inl ⟨j9, hj9, rfl, hv9⟩) ?_
                  exact go
                · refine r_cast dX2_rests_2_63 (by first | assumption | (simp only [kd_sI, kd_sR, kd_sA, kd_sQ, kd_sL, kd_sD, ln_sI, ln_sR, ln_sA, ln_sQ, ln_sL, ln_sD, gI_sR, gI_sA, gI_sQ, gI_sL, gI_sD, gR_sI, gR_sA, gR_sQ, gR_sL, gR_sD, gA_sI, gA_sR, gA_sQ, gA_sL, gA_sD, gQ_sI, gQ_sR, gQ_sA, gQ_sL, gQ_sD, gL_sI, gL_sR, gL_sA, gL_sQ, gL_sD]; assumption) | simp [kd_sI, kd_sR, kd_sA, kd_sQ, kd_sL, kd_sD, ln_sI, ln_sR, ln_sA, ln_sQ, ln_sL, ln_sD, gI_sR, gI_sA, gI_sQ, gI_sL, gI_sD, gR_sI, gR_sA, gR_sQ, gR_sL, gR_sD, gA_sI, gA_sR, gA_sQ, gA_sL, gA_sD, gQ_sI, gQ_sR, gQ_sA, gQ_sL, gQ_sD, gL_sI, gL_sR, gL_sA, gL_sQ, gL_sD, kd_nO, kd_nA, *]) (T := TJ19) (N := 1) rfl q1052 (Or.inl rfl) ?_
                  refine r_callV (As := []) (mc' := 0) (ms' := 0) dX2_rests_2_66 k_X2_117 rfl (by first | assumption | (simp only [kd_sI, kd_sR, kd_sA, kd_sQ, kd_sL, kd_sD, ln_sI, ln_sR, ln_sA, ln_sQ, ln_sL, ln_sD, gI_sR, gI_sA, gI_sQ, gI_sL, gI_sD, gR_sI, gR_sA, gR_sQ, gR_sL, gR_sD, gA_sI, gA_sR, gA_sQ, gA_sL, gA_sD, gQ_sI, gQ_sR, gQ_sA, gQ_sL, gQ_sD, gL_sI, gL_sR, gL_sA, gL_sQ, gL_sD]; assumption) | simp [kd_sI, kd_sR, kd_sA, kd_sQ, kd_sL, kd_sD, ln_sI, ln_sR, ln_sA, ln_sQ, ln_sL, ln_sD, gI_sR, gI_sA, gI_sQ, gI_sL, gI_sD, gR_sI, gR_sA, gR_sQ, gR_sL, gR_sD, gA_sI, gA_sR, gA_sQ, gA_sL, gA_sD, gQ_sI, gQ_sR, gQ_sA, gQ_sL, gQ_sD, gL_sI, gL_sR, gL_sA, gL_sQ, gL_sD, kd_nO, kd_nA, *]) (T := TJ19) (N := 1) rfl (by first | assumption | omega) (by first | assumption | omega) (by first | assumption | omega) (Nat.le_of_ble_eq_true rfl) ?_
                  refine s_intValue (Or.inr ⟨k26, f121⟩) ?_
                  exact go
          exact inner l.length 0 (by omega) (fun x hx => absurd hx (Nat.not_lt_zero x))
  exact loop (nat g 354) 0 _ _ H3 _ (fun _ => 0) _ _ (by omega) (by omega) (by omega) K3 hI3 z0 ⟨hL3, fun i hi => absurd hi (Nat.not_lt_zero i)⟩
end Needs
