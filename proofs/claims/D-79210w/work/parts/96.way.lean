set_option maxRecDepth 100000
/-! WAYS OF A PLAN -/
theorem q_cls_cases {g : Nat → Int32} (hB : GB g) (hY : GY g) {t k : Int32} : q_class g t k = -1 ∨ ∃ j, j < 3 ∧ q_class g t k = nI j := by
  unfold q_class
  cases hf : find9 (q_in g t k) 0 (nat g 101) with
  | none => exact Or.inl rfl
  | some c =>
    have hc := (find9_lt hf).2.1
    have h1 := (hB.2.2.2.2.2 c (by omega)).1.2
    have h2 := (hY.1 _ h1).2.2.2.1
    exact Or.inr ⟨_, h2.2, h2.1⟩
theorem tvFor_place {g : Nat → Int32} (hB : GB g) (hY : GY g) {t y : Nat} (ht : t < nat g 40) : tvFor (tvOf g t) (g (8 + 6 * y)) (g (9 + 6 * y)) (g 0) = q_place g t y := by
  have h45 := (hB.2.2.2.2.1 t ht).1.1
  have eR : tvRoom (tvOf g t) = q_room g t := by
    unfold tvRoom q_room
    show g (44 + 5 * t) / nI (nat g (45 + 5 * t)) = _
    rw [← h45]
  have eK : tvKept (tvOf g t) (g 0) = q_kept g t := by
    unfold tvKept q_kept
    rw [eR]
  have e1 : ∀ lv, tvComp (tvOf g t) lv (g (9 + 6 * y)) (g 0) = find9 (fun k => q_class g (nI t) (nI k) == lv && q_fit g t y k) 0 (nat g (45 + 5 * t)) := by
    intro lv
    unfold tvComp
    rw [eR, eK]
    rfl
  unfold tvFor q_place
  rw [e1, e1]
  have e2 : find9 (fun k => q_class g (nI t) (nI k) == -1 && q_fit g t y k) 0 (nat g (45 + 5 * t)) = find9 (fun k => q_fit g t y k && decide (q_class g (nI t) (nI k) < 0)) 0 (nat g (45 + 5 * t)) := by
    refine find9_cg _ _ (fun k _ _ => ?_)
    rw [Bool.and_comm]
    congr 1
    rcases q_cls_cases hB hY (t := nI t) (k := nI k) with h | ⟨j, hj, h⟩
    · rw [h]
      rfl
    · rw [h]
      have : ∀ j, j < 3 → (nI j == -1) = decide (nI j < 0) := by decide
      exact this j hj
  rw [e2]
  generalize find9 (fun k => q_class g (nI t) (nI k) == g (8 + 6 * y) && q_fit g t y k) 0 (nat g (45 + 5 * t)) = o
  cases o <;> rfl
section Way
variable {G : Gl} {d : Nat} {Qr : Option AV → AH → Prop} {Qx : String → Nat → AH → Prop} {H : AH} {O : Nat → Nat} {p t L n e : Nat} {A : PA} {g : Nat → Int32} {tr tc tf tu : Nat → Nat}
/-- a search's answer -/
def wayF (g : Nat → Int32) (op : Nat → Bool) (fr to : Nat) : Best := if fr = to then some ([], nI 0) else dfs g op to 7 fr (2 ^ fr) [] (nI 0) none
theorem c_searchInit {S fr to : Nat} {ty : Option Nat} {sp : Int32} {op : Nat → Bool} (hd : 18 ≤ d) (hT : GT g) (hn : n = nat g 40) (hl : ∀ t, t < n → isN g (43 + 5 * t) 100) (hfr : fr < 8) (hto : to < 8) (hV : PlV G H p L n e tr tc tf tu sp g) (hO : OpR H ty g n sp op) (hS : kd H S = 11) (h48 : gI H 48 S = 0) (h50 : gR H 50 S = none) (hQ : ∀ H' ra, Ks (fun a => a = S) H H' → kd H ra = 0 → SrR H' S p ty to ra (2 ^ fr) [] (wayF g op fr to) → Qr none H') : AMet G d 8193 49164 yX11_init wX11_init H [vR (some S), vR (some p), vR ty, vI (nI fr), vI (nI to)] Qr Qx := by
  obtain ⟨bb1, bb2, bb3, bb4, bb5⟩ := bm_1 fr hfr
  have kp := hV.1.1
  have n12 := hV.2.2.1
  refine AMet.of (M := mX11_init) (maxL := 5) (by first | rfl | decide +kernel) rfl (Nat.le_of_ble_eq_true rfl) ?_
  show AW mX11_init _ _ _ _ _ _ _ 0 [some (vR (some S)), some (vR (some p)), some (vR ty), some (vI (nI fr)), some (vI (nI to))] []
  refine r_aload_n (i := 0) dX11_init_0 rfl rfl ?_
  refine r_aload_n (i := 1) dX11_init_1 rfl rfl ?_
  refine r_putR dX11_init_2 fG_X11_3 (fun _ => by first | rfl | contradiction) (by first | assumption | (simp only [kd_sI, kd_sR, kd_sA, kd_sQ, kd_sL, kd_sD, ln_sI, ln_sR, ln_sA, ln_sQ, ln_sL, ln_sD, gI_sR, gI_sA, gI_sQ, gI_sL, gI_sD, gR_sI, gR_sA, gR_sQ, gR_sL, gR_sD, gA_sI, gA_sR, gA_sQ, gA_sL, gA_sD, gQ_sI, gQ_sR, gQ_sA, gQ_sL, gQ_sD, gL_sI, gL_sR, gL_sA, gL_sQ, gL_sD]; assumption) | simp [kd_sI, kd_sR, kd_sA, kd_sQ, kd_sL, kd_sD, ln_sI, ln_sR, ln_sA, ln_sQ, ln_sL, ln_sD, gI_sR, gI_sA, gI_sQ, gI_sL, gI_sD, gR_sI, gR_sA, gR_sQ, gR_sL, gR_sD, gA_sI, gA_sR, gA_sQ, gA_sL, gA_sD, gQ_sI, gQ_sR, gQ_sA, gQ_sL, gQ_sD, gL_sI, gL_sR, gL_sA, gL_sQ, gL_sD, kd_nO, kd_nA, *]) (by first | exact Or.inl ⟨_, rfl⟩ | exact Or.inr ⟨_, rfl⟩) ?_
  refine r_aload_n (i := 0) dX11_init_5 rfl rfl ?_
  refine r_objInit dX11_init_6 q1902 (by with_reducible rfl) (by first | assumption | omega) (Nat.le_of_ble_eq_true rfl) ?_
  refine r_aload_n (i := 0) dX11_init_9 rfl rfl ?_
  refine r_bipush (v := nI 12) dX11_init_10 (by decide) ?_
  refine r_new_int 1047 dX11_init_12 q1480 (by decide) (by first | with_reducible rfl | assumption | (simp only [nI_add, pk_mul, nI_1]; with_reducible rfl)) (by first | assumption | omega) (by first | assumption | omega) (by first | assumption | omega) (fun q12 hq12 => ?_)
  have hq : kd H q12 = 0 := hq12
  have nS : ¬ S = q12 := fun e => by rw [e, hq] at hS; exact absurd hS (by decide)
  refine AW.name (fun H1 hH1 => ?_)
  have K1 : Ks (fun a => a = S) H H1 := by rw [hH1]; exact ((Ks.rf (S := fun a => a = S)).sR (fun _ => rfl)).nA hq
  have k1 : kd H1 S = 11 := K1.kk hS (by decide)
  have kq : kd H1 q12 = 1047 := by rw [hH1, kd_nA, if_pos rfl]
  have lq : ln H1 q12 = 12 := by rw [hH1, ln_nA, if_pos rfl]
  have r53 : gR H1 53 S = some p := by rw [hH1]; show gR (sR H 53 S (some p)) 53 S = _; exact gR_sRs
  have r50 : gR H1 50 S = none := by rw [hH1]; show gR (sR H 53 S (some p)) 50 S = _; rw [gR_sRn (by decide)]; exact h50
  have i48 : gI H1 48 S = 0 := by rw [hH1]; exact h48
  refine r_putR dX11_init_14 fG_X11_15 (fun _ => by first | rfl | contradiction) (by first | assumption | (simp only [kd_sI, kd_sR, kd_sA, kd_sQ, kd_sL, kd_sD, ln_sI, ln_sR, ln_sA, ln_sQ, ln_sL, ln_sD, gI_sR, gI_sA, gI_sQ, gI_sL, gI_sD, gR_sI, gR_sA, gR_sQ, gR_sL, gR_sD, gA_sI, gA_sR, gA_sQ, gA_sL, gA_sD, gQ_sI, gQ_sR, gQ_sA, gQ_sL, gQ_sD, gL_sI, gL_sR, gL_sA, gL_sQ, gL_sD]; assumption) | simp [kd_sI, kd_sR, kd_sA, kd_sQ, kd_sL, kd_sD, ln_sI, ln_sR, ln_sA, ln_sQ, ln_sL, ln_sD, gI_sR, gI_sA, gI_sQ, gI_sL, gI_sD, gR_sI, gR_sA, gR_sQ, gR_sL, gR_sD, gA_sI, gA_sR, gA_sQ, gA_sL, gA_sD, gQ_sI, gQ_sR, gQ_sA, gQ_sL, gQ_sD, gL_sI, gL_sR, gL_sA, gL_sQ, gL_sD, kd_nO, kd_nA, *]) (by first | exact Or.inl ⟨_, rfl⟩ | exact Or.inr ⟨_, rfl⟩) ?_
  refine r_aload_n (i := 0) dX11_init_17 rfl rfl ?_
  refine r_ldc dX11_init_18 q1903 ?_
  refine r_putI dX11_init_20 fG_X11_22 (fun _ => by first | rfl | contradiction) (by first | assumption | (simp only [kd_sI, kd_sR, kd_sA, kd_sQ, kd_sL, kd_sD, ln_sI, ln_sR, ln_sA, ln_sQ, ln_sL, ln_sD, gI_sR, gI_sA, gI_sQ, gI_sL, gI_sD, gR_sI, gR_sA, gR_sQ, gR_sL, gR_sD, gA_sI, gA_sR, gA_sQ, gA_sL, gA_sD, gQ_sI, gQ_sR, gQ_sA, gQ_sL, gQ_sD, gL_sI, gL_sR, gL_sA, gL_sQ, gL_sD]; assumption) | simp [kd_sI, kd_sR, kd_sA, kd_sQ, kd_sL, kd_sD, ln_sI, ln_sR, ln_sA, ln_sQ, ln_sL, ln_sD, gI_sR, gI_sA, gI_sQ, gI_sL, gI_sD, gR_sI, gR_sA, gR_sQ, gR_sL, gR_sD, gA_sI, gA_sR, gA_sQ, gA_sL, gA_sD, gQ_sI, gQ_sR, gQ_sA, gQ_sL, gQ_sD, gL_sI, gL_sR, gL_sA, gL_sQ, gL_sD, kd_nO, kd_nA, *]) (by first | rfl | assumption) (by first | rfl | assumption) ?_
  refine r_aload_n (i := 0) dX11_init_23 rfl rfl ?_
  refine r_aload_n (i := 2) dX11_init_24 rfl rfl ?_
  refine r_putR dX11_init_25 fG_X11_26 (fun _ => by first | rfl | contradiction) (by first | assumption | (simp only [kd_sI, kd_sR, kd_sA, kd_sQ, kd_sL, kd_sD, ln_sI, ln_sR, ln_sA, ln_sQ, ln_sL, ln_sD, gI_sR, gI_sA, gI_sQ, gI_sL, gI_sD, gR_sI, gR_sA, gR_sQ, gR_sL, gR_sD, gA_sI, gA_sR, gA_sQ, gA_sL, gA_sD, gQ_sI, gQ_sR, gQ_sA, gQ_sL, gQ_sD, gL_sI, gL_sR, gL_sA, gL_sQ, gL_sD]; assumption) | simp [kd_sI, kd_sR, kd_sA, kd_sQ, kd_sL, kd_sD, ln_sI, ln_sR, ln_sA, ln_sQ, ln_sL, ln_sD, gI_sR, gI_sA, gI_sQ, gI_sL, gI_sD, gR_sI, gR_sA, gR_sQ, gR_sL, gR_sD, gA_sI, gA_sR, gA_sQ, gA_sL, gA_sD, gQ_sI, gQ_sR, gQ_sA, gQ_sL, gQ_sD, gL_sI, gL_sR, gL_sA, gL_sQ, gL_sD, kd_nO, kd_nA, *]) (by first | exact Or.inl ⟨_, rfl⟩ | exact Or.inr ⟨_, rfl⟩) ?_
  refine r_aload_n (i := 0) dX11_init_28 rfl rfl ?_
  refine r_iload dX11_init_29 rfl ?_
  refine r_putI dX11_init_31 fG_X11_30 (fun _ => by first | rfl | contradiction) (by first | assumption | (simp only [kd_sI, kd_sR, kd_sA, kd_sQ, kd_sL, kd_sD, ln_sI, ln_sR, ln_sA, ln_sQ, ln_sL, ln_sD, gI_sR, gI_sA, gI_sQ, gI_sL, gI_sD, gR_sI, gR_sA, gR_sQ, gR_sL, gR_sD, gA_sI, gA_sR, gA_sQ, gA_sL, gA_sD, gQ_sI, gQ_sR, gQ_sA, gQ_sL, gQ_sD, gL_sI, gL_sR, gL_sA, gL_sQ, gL_sD]; assumption) | simp [kd_sI, kd_sR, kd_sA, kd_sQ, kd_sL, kd_sD, ln_sI, ln_sR, ln_sA, ln_sQ, ln_sL, ln_sD, gI_sR, gI_sA, gI_sQ, gI_sL, gI_sD, gR_sI, gR_sA, gR_sQ, gR_sL, gR_sD, gA_sI, gA_sR, gA_sQ, gA_sL, gA_sD, gQ_sI, gQ_sR, gQ_sA, gQ_sL, gQ_sD, gL_sI, gL_sR, gL_sA, gL_sQ, gL_sD, kd_nO, kd_nA, *]) (by first | rfl | assumption) (by first | rfl | assumption) ?_
  refine r_aload_n (i := 0) dX11_init_34 rfl rfl ?_
  refine r_iconst (v := nI 1) dX11_init_35 (by decide) ?_
  refine r_iload_n (i := 3) dX11_init_36 rfl rfl ?_
  refine r_ishl dX11_init_37 ?_
  rw [bb1]
  refine r_putI dX11_init_38 fG_X11_33 (fun _ => by first | rfl | contradiction) (by first | assumption | (simp only [kd_sI, kd_sR, kd_sA, kd_sQ, kd_sL, kd_sD, ln_sI, ln_sR, ln_sA, ln_sQ, ln_sL, ln_sD, gI_sR, gI_sA, gI_sQ, gI_sL, gI_sD, gR_sI, gR_sA, gR_sQ, gR_sL, gR_sD, gA_sI, gA_sR, gA_sQ, gA_sL, gA_sD, gQ_sI, gQ_sR, gQ_sA, gQ_sL, gQ_sD, gL_sI, gL_sR, gL_sA, gL_sQ, gL_sD]; assumption) | simp [kd_sI, kd_sR, kd_sA, kd_sQ, kd_sL, kd_sD, ln_sI, ln_sR, ln_sA, ln_sQ, ln_sL, ln_sD, gI_sR, gI_sA, gI_sQ, gI_sL, gI_sD, gR_sI, gR_sA, gR_sQ, gR_sL, gR_sD, gA_sI, gA_sR, gA_sQ, gA_sL, gA_sD, gQ_sI, gQ_sR, gQ_sA, gQ_sL, gQ_sD, gL_sI, gL_sR, gL_sA, gL_sQ, gL_sD, kd_nO, kd_nA, *]) (by first | rfl | assumption) (by first | rfl | assumption) ?_
  refine AW.name (fun H2 hH2 => ?_)
  have K2' : Ks (fun a => a = S) H1 H2 := by rw [hH2]; exact (((((Ks.rf (S := fun a => a = S)).sR (fun _ => rfl)).sI (fun _ => rfl)).sR (fun _ => rfl)).sI (fun _ => rfl)).sI (fun _ => rfl)
  have K2 : Ks (fun a => a = S) H H2 := K1.tr K2'
  have sk : ∀ {H2 : AH}, kd H2 S = 11 → SKd H2 (fun a => a = S) := fun h1 a _ q => by rw [q]; omega
  have hS2 : SrR H2 S p ty to q12 (2 ^ fr) [] none := by
    refine ⟨⟨by rw [hH2]; exact k1, ?_, ?_, ?_, ?_⟩, ⟨by rw [hH2]; exact kq, by rw [hH2]; exact lq⟩, ?_, by rw [hH2]; exact gI_sIs, fun i hi => absurd hi (by simp), ?_, ?_⟩
    · rw [hH2]
      show gR (sR (sR H1 47 S (some q12)) 45 S ty) 53 S = _
      rw [gR_sRn (by decide), gR_sRn (by decide)]
      exact r53
    · rw [hH2]
      show gR (sR (sR H1 47 S (some q12)) 45 S ty) 45 S = _
      exact gR_sRs
    · rw [hH2, gI_sIn (by decide), gI_sIs]
    · rw [hH2]
      show gR (sR (sR H1 47 S (some q12)) 45 S ty) 47 S = _
      rw [gR_sRn (by decide), gR_sRs]
    · rw [hH2, gI_sIn (by decide), gI_sIn (by decide)]
      show gI (sI (sR H1 47 S (some q12)) 52 S (nI 2147483647)) 48 S = _
      rw [gI_sIn (by decide)]
      exact i48
    · rw [hH2]
      show gR (sR (sR H1 47 S (some q12)) 45 S ty) 50 S = _
      rw [gR_sRn (by decide), gR_sRn (by decide)]
      exact r50
    · rw [hH2, gI_sIn (by decide), gI_sIn (by decide)]
      show gI (sI (sR H1 47 S (some q12)) 52 S (nI 2147483647)) 52 S = _
      rw [gI_sIs]
  have k2 : kd H2 S = 11 := hS2.1.1
  have hV2 := hV.ks K2 (sk hS)
  have hO2 := hO.ks K2 (sk hS)
  have hKS : ∀ {H3 : AH}, Ks (SS S q12) H2 H3 → Ks (fun a => a = S) H H3 := fun k => K2.tr2 k (fun a ha q => q.elim (fun e => e) (fun e => by rw [e] at ha; exact absurd hq ha))
  by_cases hft : fr = to
  · refine r_aload_n (i := 0) dX11_init_41 rfl rfl ?_
    refine r_iload_n (i := 3) dX11_init_42 rfl rfl ?_
    refine r_iconst (v := nI 0) dX11_init_43 (by decide) ?_
    refine r_callV (As := [_, _]) (mc' := 1) (ms' := 12) dX11_init_44 k_X11_36 rfl (by first | assumption | (simp only [kd_sI, kd_sR, kd_sA, kd_sQ, kd_sL, kd_sD, ln_sI, ln_sR, ln_sA, ln_sQ, ln_sL, ln_sD, gI_sR, gI_sA, gI_sQ, gI_sL, gI_sD, gR_sI, gR_sA, gR_sQ, gR_sL, gR_sD, gA_sI, gA_sR, gA_sQ, gA_sL, gA_sD, gQ_sI, gQ_sR, gQ_sA, gQ_sL, gQ_sD, gL_sI, gL_sR, gL_sA, gL_sQ, gL_sD]; assumption) | simp [kd_sI, kd_sR, kd_sA, kd_sQ, kd_sL, kd_sD, ln_sI, ln_sR, ln_sA, ln_sQ, ln_sL, ln_sD, gI_sR, gI_sA, gI_sQ, gI_sL, gI_sD, gR_sI, gR_sA, gR_sQ, gR_sL, gR_sD, gA_sI, gA_sR, gA_sQ, gA_sL, gA_sD, gQ_sI, gQ_sR, gQ_sA, gQ_sL, gQ_sD, gL_sI, gL_sR, gL_sA, gL_sQ, gL_sD, kd_nO, kd_nA, *]) (T := TX11) (N := 9) rfl (by first | assumption | omega) (by first | assumption | omega) (by first | assumption | omega) (Nat.le_of_ble_eq_true rfl) ?_
    refine c_goTo (sm := 0) hft (by omega) hS2 rfl (by omega) (by simp) (fun H3 hK3 hS3 => ?_)
    show AW mX11_init G d Qr Qx _ _ H3 47 _ _
    refine r_return dX11_init_47 rfl ?_
    refine hQ H3 q12 (hKS hK3) hq ?_
    unfold wayF
    rw [if_pos hft]
    exact hS3
  · have hc := room_all hT hn hfr
    have hp2 : 2 ^ (cR (kP g (2 ^ fr) fr) 0 n + cR (lP g (2 ^ fr)) 0 n) ≤ 2 ^ 12 := Nat.pow_le_pow_right (by decide) (by omega)
    obtain ⟨Z, hZ⟩ : ∃ Z, 2 ^ (cR (kP g (2 ^ fr) fr) 0 n + cR (lP g (2 ^ fr)) 0 n) = Z := ⟨_, rfl⟩
    rw [hZ, show (2 : Nat) ^ 12 = 4096 by decide] at hp2
    refine r_aload_n (i := 0) dX11_init_41 rfl rfl ?_
    refine r_iload_n (i := 3) dX11_init_42 rfl rfl ?_
    refine r_iconst (v := nI 0) dX11_init_43 (by decide) ?_
    refine r_callV (As := [_, _]) (mc' := (2 * Z)) (ms' := (12 * Z)) dX11_init_44 k_X11_36 rfl (by first | assumption | (simp only [kd_sI, kd_sR, kd_sA, kd_sQ, kd_sL, kd_sD, ln_sI, ln_sR, ln_sA, ln_sQ, ln_sL, ln_sD, gI_sR, gI_sA, gI_sQ, gI_sL, gI_sD, gR_sI, gR_sA, gR_sQ, gR_sL, gR_sD, gA_sI, gA_sR, gA_sQ, gA_sL, gA_sD, gQ_sI, gQ_sR, gQ_sA, gQ_sL, gQ_sD, gL_sI, gL_sR, gL_sA, gL_sQ, gL_sD]; assumption) | simp [kd_sI, kd_sR, kd_sA, kd_sQ, kd_sL, kd_sD, ln_sI, ln_sR, ln_sA, ln_sQ, ln_sL, ln_sD, gI_sR, gI_sA, gI_sQ, gI_sL, gI_sD, gR_sI, gR_sA, gR_sQ, gR_sL, gR_sD, gA_sI, gA_sR, gA_sQ, gA_sL, gA_sD, gQ_sI, gQ_sR, gQ_sA, gQ_sL, gQ_sD, gL_sI, gL_sR, gL_sA, gL_sQ, gL_sD, kd_nO, kd_nA, *]) (T := TX11) (N := 9) rfl (by first | assumption | omega) (by first | assumption | omega) (by first | assumption | omega) (Nat.le_of_ble_eq_true rfl) ?_
    rw [← hZ]
    refine c_go hT hn hl hto 7 (sm := 0) bb2 (by omega) bb3 (bb5 to hto (fun e => hft e.symm)) hfr bb4 (by simp) rfl (by simp) hV2 hO2 hS2 (fun H3 hK3 hS3 => ?_)
    show AW mX11_init G d Qr Qx _ _ H3 47 _ _
    refine r_return dX11_init_47 rfl ?_
    refine hQ H3 q12 (hKS hK3) hq ?_
    unfold wayF
    rw [if_neg hft]
    exact hS3
theorem c_isFound {S to ra mask : Nat} {ty : Option Nat} {row : List Nat} {b : Best} (hS : SrR H S p ty to ra mask row b) (hQ : Qr (some (vI (bI b.isSome))) H) : AMet G d 0 0 yX11_isFound wX11_isFound H [vR (some S)] Qr Qx := by
  obtain ⟨⟨a1, a2, a3, a4, a5⟩, ⟨a6, a7⟩, a8, a9, a10, a11⟩ := hS
  refine AMet.of (M := mX11_isFound) (maxL := 1) (by first | rfl | decide +kernel) rfl (Nat.le_of_ble_eq_true rfl) ?_
  show AW mX11_isFound _ _ _ _ _ _ _ 0 [some (vR (some S))] []
  cases b with
  | none =>
    have h50 := a11.1
    refine r_aload_n (i := 0) dX11_isFound_0 rfl rfl ?_
    refine r_getR dX11_isFound_1 fR_X11_40 (by first | assumption | (simp only [kd_sI, kd_sR, kd_sA, kd_sQ, kd_sL, kd_sD, ln_sI, ln_sR, ln_sA, ln_sQ, ln_sL, ln_sD, gI_sR, gI_sA, gI_sQ, gI_sL, gI_sD, gR_sI, gR_sA, gR_sQ, gR_sL, gR_sD, gA_sI, gA_sR, gA_sQ, gA_sL, gA_sD, gQ_sI, gQ_sR, gQ_sA, gQ_sL, gQ_sD, gL_sI, gL_sR, gL_sA, gL_sQ, gL_sD]; assumption) | simp [kd_sI, kd_sR, kd_sA, kd_sQ, kd_sL, kd_sD, ln_sI, ln_sR, ln_sA, ln_sQ, ln_sL, ln_sD, gI_sR, gI_sA, gI_sQ, gI_sL, gI_sD, gR_sI, gR_sA, gR_sQ, gR_sL, gR_sD, gA_sI, gA_sR, gA_sQ, gA_sL, gA_sD, gQ_sI, gQ_sR, gQ_sA, gQ_sL, gQ_sD, gL_sI, gL_sR, gL_sA, gL_sQ, gL_sD, kd_nO, kd_nA, *]) (by first | assumption | exact gI_sIs | exact gR_sRs | with_reducible rfl | (simp only [kd_sI, kd_sR, kd_sA, kd_sQ, kd_sL, kd_sD, ln_sI, ln_sR, ln_sA, ln_sQ, ln_sL, ln_sD, gI_sR, gI_sA, gI_sQ, gI_sL, gI_sD, gR_sI, gR_sA, gR_sQ, gR_sL, gR_sD, gA_sI, gA_sR, gA_sQ, gA_sL, gA_sD, gQ_sI, gQ_sR, gQ_sA, gQ_sL, gQ_sD, gL_sI, gL_sR, gL_sA, gL_sQ, gL_sD]; first | done | assumption | with_reducible rfl) | rfl) ?_
    refine r_ifnull (tgt := 11) dX11_isFound_4 (by decide) (fun h4 => ?_) (fun a4 h4 => ?_)
    · refine r_iconst (v := nI 0) dX11_isFound_11 (by decide) ?_
      refine r_ireturn dX11_isFound_12 rfl (by first | rfl | assumption | exact vp_nar_int _ | exact pk_nc _) ?_
      exact hQ
    · cases h4
  | some q =>
    obtain ⟨r, s⟩ := q
    obtain ⟨ba, h50, -⟩ := a11
    refine r_aload_n (i := 0) dX11_isFound_0 rfl rfl ?_
    refine r_getR dX11_isFound_1 fR_X11_40 (by first | assumption | (simp only [kd_sI, kd_sR, kd_sA, kd_sQ, kd_sL, kd_sD, ln_sI, ln_sR, ln_sA, ln_sQ, ln_sL, ln_sD, gI_sR, gI_sA, gI_sQ, gI_sL, gI_sD, gR_sI, gR_sA, gR_sQ, gR_sL, gR_sD, gA_sI, gA_sR, gA_sQ, gA_sL, gA_sD, gQ_sI, gQ_sR, gQ_sA, gQ_sL, gQ_sD, gL_sI, gL_sR, gL_sA, gL_sQ, gL_sD]; assumption) | simp [kd_sI, kd_sR, kd_sA, kd_sQ, kd_sL, kd_sD, ln_sI, ln_sR, ln_sA, ln_sQ, ln_sL, ln_sD, gI_sR, gI_sA, gI_sQ, gI_sL, gI_sD, gR_sI, gR_sA, gR_sQ, gR_sL, gR_sD, gA_sI, gA_sR, gA_sQ, gA_sL, gA_sD, gQ_sI, gQ_sR, gQ_sA, gQ_sL, gQ_sD, gL_sI, gL_sR, gL_sA, gL_sQ, gL_sD, kd_nO, kd_nA, *]) (by first | assumption | exact gI_sIs | exact gR_sRs | with_reducible rfl | (simp only [kd_sI, kd_sR, kd_sA, kd_sQ, kd_sL, kd_sD, ln_sI, ln_sR, ln_sA, ln_sQ, ln_sL, ln_sD, gI_sR, gI_sA, gI_sQ, gI_sL, gI_sD, gR_sI, gR_sA, gR_sQ, gR_sL, gR_sD, gA_sI, gA_sR, gA_sQ, gA_sL, gA_sD, gQ_sI, gQ_sR, gQ_sA, gQ_sL, gQ_sD, gL_sI, gL_sR, gL_sA, gL_sQ, gL_sD]; first | done | assumption | with_reducible rfl) | rfl) ?_
    refine r_ifnull (tgt := 11) dX11_isFound_4 (by decide) (fun h4 => ?_) (fun a4 h4 => ?_)
    · cases h4
    · refine r_iconst (v := nI 1) dX11_isFound_7 (by decide) ?_
      refine r_goto (tgt := 12) dX11_isFound_8 (by decide) ?_
      refine r_ireturn dX11_isFound_12 rfl (by first | rfl | assumption | exact vp_nar_int _ | exact pk_nc _) ?_
      exact hQ
/-- a plan as a search sees it -/
theorem PlV.of (hP : IsP G H O t p A g) : ∃ e tr tc tf tu, PlV G H p A.tr (nat g 40) e tr tc tf tu (g 0) g := by
  obtain ⟨h0, ⟨⟨p1, p8, p9, p10, p11, p12, p13, p14, p15⟩, pO⟩, h2, ⟨e, tr, tc, tf, tu, h3⟩, h4, h5⟩ := hP
  exact ⟨e, tr, tc, tf, tu, ⟨p1, p10, p13⟩, h3.1, h3.2.1, fun t ht => (h3.2.2.2.1 t ht).1⟩
theorem OpR.of {a nm y : Nat} (hB : GB g) (hY : GY g) (ho : TyO H O g y a nm) : OpR H (some a) g (nat g 40) (g 0) (opB g (some y)) := by
  obtain ⟨⟨a1, a2, a3, a4⟩, -⟩ := ho
  exact Or.inr ⟨a, _, _, rfl, a1, a3, a4, fun t ht => by rw [tvFor_place hB hY ht]; rfl⟩
theorem OpR.no : OpR H none g n (g 0) (opB g none) := Or.inl ⟨rfl, fun _ _ => rfl⟩
theorem pl_shortest {y fr to : Nat} (hd : 20 ≤ d) (hP : IsP G H O t p A g) (hI : IG g) (hy : y < nat g 3) (hfr : fr < 8) (hto : to < 8) (hQ : ∀ H', Ks (fun _ => False) H H' → Qr (some (vI (if fr = to then nI 0 else wayL (wayB g (some y) fr to)))) H') : AMet G d 8195 49179 yX2_shortest wX2_shortest H [vR (some p), vI (nI y), vI (nI fr), vI (nI to)] Qr Qx := by
  have hB := hI.1
  have hT := hI.2.1
  have hV7 := hI.2.2.2.2.2.2.1
  have hYY := hI.2.2.2.2.2.2.2.1
  obtain ⟨e, tr, tc, tf, tu, hV⟩ := PlV.of hP
  obtain ⟨h0, h1, ⟨eT, ty, nm, nd, h2⟩, h3, h4, h5⟩ := hP
  obtain ⟨⟨p1, p8, p9, p10, p11, p12, p13, p14, p15⟩, pO⟩ := h1
  have h36 := hB.1.2
  refine AMet.of (M := mX2_shortest) (maxL := 5) (by first | rfl | decide +kernel) rfl (Nat.le_of_ble_eq_true rfl) ?_
  show AW mX2_shortest _ _ _ _ _ _ _ 0 [some (vR (some p)), some (vI (nI y)), some (vI (nI fr)), some (vI (nI to)), none] []
  refine r_new dX2_shortest_0 cT_X11 q1897 q1898 q128 (by decide +kernel) (by first | assumption | omega) (by first | assumption | omega) (fun q0 hq0 => ?_)
  have hq : kd H q0 = 0 := hq0
  refine AW.name (fun H1 hH1 => ?_)
  have K1 : Ks (fun _ => False) H H1 := by rw [hH1]; exact Ks.rf.nO hq
  refine AW.st0 (fun z1 => ?_)
  have s1 : Stq G (fun _ => False) H O H1 O := Stq.of K1 z1
  have x2 := h2.ks s1 (fun _ _ h => h.elim)
  have kq : kd H1 q0 = 11 := by rw [hH1, kd_nO, if_pos rfl]
  have i48 : gI H1 48 q0 = 0 := by rw [hH1, gI_nO, if_pos rfl]
  have r50 : gR H1 50 q0 = none := by rw [hH1, gR_nO, if_pos rfl]
  have hV1 := hV.ks K1 (fun _ _ h => h.elim)
  have kp1 := hV1.1.1
  have e1 := K1.at (a := p) (by rw [p1]; decide) (fun h => h)
  refine r_dup dX2_shortest_3 rfl ?_
  refine r_aload_n (i := 0) dX2_shortest_4 rfl rfl ?_
  refine r_aload_n (i := 0) dX2_shortest_5 rfl rfl ?_
  refine r_iload_n (i := 1) dX2_shortest_6 rfl rfl ?_
  refine r_callV (As := [_]) (mc' := 1) (ms' := 6) dX2_shortest_7 k_X2_163 rfl (by first | assumption | (simp only [kd_sI, kd_sR, kd_sA, kd_sQ, kd_sL, kd_sD, ln_sI, ln_sR, ln_sA, ln_sQ, ln_sL, ln_sD, gI_sR, gI_sA, gI_sQ, gI_sL, gI_sD, gR_sI, gR_sA, gR_sQ, gR_sL, gR_sD, gA_sI, gA_sR, gA_sQ, gA_sL, gA_sD, gQ_sI, gQ_sR, gQ_sA, gQ_sL, gQ_sD, gL_sI, gL_sR, gL_sA, gL_sQ, gL_sD]; assumption) | simp [kd_sI, kd_sR, kd_sA, kd_sQ, kd_sL, kd_sD, ln_sI, ln_sR, ln_sA, ln_sQ, ln_sL, ln_sD, gI_sR, gI_sA, gI_sQ, gI_sL, gI_sD, gR_sI, gR_sA, gR_sQ, gR_sL, gR_sD, gA_sI, gA_sR, gA_sQ, gA_sL, gA_sD, gQ_sI, gQ_sR, gQ_sA, gQ_sL, gQ_sD, gL_sI, gL_sR, gL_sA, gL_sQ, gL_sD, kd_nO, kd_nA, *]) (T := TX2) (N := 8) rfl (by first | assumption | omega) (by first | assumption | omega) (by first | assumption | omega) (Nat.le_of_ble_eq_true rfl) ?_
  refine c_ptype (by omega) kp1 (by rw [at_gR e1]; exact p8) x2.1 (by omega) (fun i hi => (x2.2.2.2.2.2 i hi).1.1) (fun _ i hi ey => ?_) (fun hx q => ?_)
  · have eyi : y = i := (nI_eq (by omega) (by omega)).mp ey
    subst eyi
    show AW mX2_shortest G d Qr Qx _ _ H1 10 _ _
    refine r_iload_n (i := 2) dX2_shortest_10 rfl rfl ?_
    refine r_iload_n (i := 3) dX2_shortest_11 rfl rfl ?_
    refine r_callI (As := [_, _, _, _]) (mc' := 8193) (ms' := 49164) dX2_shortest_12 k_X2_184 rfl (by first | assumption | omega) (by first | assumption | omega) (by first | assumption | omega) (Nat.le_of_ble_eq_true rfl) ?_
    refine c_searchInit (op := opB g (some y)) (by omega) hT rfl (fun t ht => (hV7.2.2 t ht).1) hfr hto hV1 (OpR.of hB hYY (x2.2.2.2.2.2 y hi)) kq i48 r50 (fun H2 ra K2 hra hS2 => ?_)
    have K12 : Ks (fun _ => False) H H2 := K1.tr2 K2 (fun a ha e => by rw [e] at ha; exact ha hq)
    have kq2 : kd H2 q0 = 11 := hS2.1.1
    show AW mX2_shortest G d Qr Qx _ _ H2 15 _ _
    refine r_astore dX2_shortest_15 (Nat.le_of_ble_eq_true rfl) (by simp only [lset]; rfl) ?_
    refine r_aload dX2_shortest_17 rfl ?_
    refine r_callV (As := []) (mc' := 0) (ms' := 0) dX2_shortest_19 k_X2_187 rfl (by first | assumption | (simp only [kd_sI, kd_sR, kd_sA, kd_sQ, kd_sL, kd_sD, ln_sI, ln_sR, ln_sA, ln_sQ, ln_sL, ln_sD, gI_sR, gI_sA, gI_sQ, gI_sL, gI_sD, gR_sI, gR_sA, gR_sQ, gR_sL, gR_sD, gA_sI, gA_sR, gA_sQ, gA_sL, gA_sD, gQ_sI, gQ_sR, gQ_sA, gQ_sL, gQ_sD, gL_sI, gL_sR, gL_sA, gL_sQ, gL_sD]; assumption) | simp [kd_sI, kd_sR, kd_sA, kd_sQ, kd_sL, kd_sD, ln_sI, ln_sR, ln_sA, ln_sQ, ln_sL, ln_sD, gI_sR, gI_sA, gI_sQ, gI_sL, gI_sD, gR_sI, gR_sA, gR_sQ, gR_sL, gR_sD, gA_sI, gA_sR, gA_sQ, gA_sL, gA_sD, gQ_sI, gQ_sR, gQ_sA, gQ_sL, gQ_sD, gL_sI, gL_sR, gL_sA, gL_sQ, gL_sD, kd_nO, kd_nA, *]) (T := TX11) (N := 9) rfl (by first | assumption | omega) (by first | assumption | omega) (by first | assumption | omega) (Nat.le_of_ble_eq_true rfl) ?_
    refine c_isFound hS2 ?_
    show AW mX2_shortest G d Qr Qx _ _ H2 22 _ _
    have hQ2 := hQ H2 K12
    have hb : (if fr = to then nI 0 else wayL (wayB g (some y) fr to)) = wayL (wayF g (opB g (some y)) fr to) := by
      unfold wayF
      split
      · rfl
      · rfl
    rw [hb] at hQ2
    have hS6 := hS2.2.2.2.2.2
    cases hw : wayF g (opB g (some y)) fr to with
    | none =>
      rw [hw] at hQ2
      refine r_if_eq (tgt := 33) dX2_shortest_22 (by decide) (fun h22 => ?_) (fun h22 => ?_)
      · refine r_iconst (v := -1) dX2_shortest_33 (by decide) ?_
        refine r_ireturn dX2_shortest_34 rfl (by first | rfl | assumption | exact vp_nar_int _ | exact pk_nc _) ?_
        exact hQ2
      · exact absurd rfl h22
    | some q =>
      obtain ⟨r, s⟩ := q
      rw [hw] at hQ2 hS6
      obtain ⟨ba, c1, c2, c3, c4, c5, c6, c7⟩ := hS6
      refine r_if_eq (tgt := 33) dX2_shortest_22 (by decide) (fun h22 => ?_) (fun h22 => ?_)
      · exact absurd (show (nI 1 : Int32) = 0 from h22) (by decide)
      · refine r_aload dX2_shortest_25 rfl ?_
        refine r_getI dX2_shortest_27 fR_X2_190 (by first | assumption | (simp only [kd_sI, kd_sR, kd_sA, kd_sQ, kd_sL, kd_sD, ln_sI, ln_sR, ln_sA, ln_sQ, ln_sL, ln_sD, gI_sR, gI_sA, gI_sQ, gI_sL, gI_sD, gR_sI, gR_sA, gR_sQ, gR_sL, gR_sD, gA_sI, gA_sR, gA_sQ, gA_sL, gA_sD, gQ_sI, gQ_sR, gQ_sA, gQ_sL, gQ_sD, gL_sI, gL_sR, gL_sA, gL_sQ, gL_sD]; assumption) | simp [kd_sI, kd_sR, kd_sA, kd_sQ, kd_sL, kd_sD, ln_sI, ln_sR, ln_sA, ln_sQ, ln_sL, ln_sD, gI_sR, gI_sA, gI_sQ, gI_sL, gI_sD, gR_sI, gR_sA, gR_sQ, gR_sL, gR_sD, gA_sI, gA_sR, gA_sQ, gA_sL, gA_sD, gQ_sI, gQ_sR, gQ_sA, gQ_sL, gQ_sD, gL_sI, gL_sR, gL_sA, gL_sQ, gL_sD, kd_nO, kd_nA, *]) (by first | assumption | exact gI_sIs | exact gR_sRs | with_reducible rfl | (simp only [kd_sI, kd_sR, kd_sA, kd_sQ, kd_sL, kd_sD, ln_sI, ln_sR, ln_sA, ln_sQ, ln_sL, ln_sD, gI_sR, gI_sA, gI_sQ, gI_sL, gI_sD, gR_sI, gR_sA, gR_sQ, gR_sL, gR_sD, gA_sI, gA_sR, gA_sQ, gA_sL, gA_sD, gQ_sI, gQ_sR, gQ_sA, gQ_sL, gQ_sD, gL_sI, gL_sR, gL_sA, gL_sQ, gL_sD]; first | done | assumption | with_reducible rfl) | rfl) ?_
        refine r_goto (tgt := 34) dX2_shortest_30 (by decide) ?_
        refine r_ireturn dX2_shortest_34 rfl (by first | rfl | assumption | exact vp_nar_int _ | exact pk_nc _) ?_
        exact hQ2
  · exfalso
    have : inB (nI y) (nI 0) (nI (nat g 3) - nI 1) = true := by
      rw [nI_sub (by omega)]
      exact decide_eq_true ⟨nI_le (by omega) (by omega), nI_le (by omega) (by omega)⟩
    rw [this] at hx
    cases hx
/-- the trays in which a type does not fit, from i on -/
def tgF (g : Nat → Int32) (y i k : Nat) : List Int32 := ((List.range' i k).filter (fun t => (q_place g t y).isNone)).map nI
theorem tgF_s {y i k : Nat} : tgF g y i (k + 1) = if (q_place g i y).isNone then nI i :: tgF g y (i + 1) k else tgF g y (i + 1) k := by
  unfold tgF
  rw [List.range'_succ, List.filter_cons]
  split <;> rfl
theorem tgF_all {y k : Nat} : tgF g y 0 k = q_tight g y k := by
  unfold tgF q_tight
  rw [List.range_eq_range']
theorem sub1 (x : Int32) : x + Int32.ofInt (-1) = x - nI 1 := by
  rw [Int32.sub_eq_add_neg]
  rfl
theorem pl_full {y a nm : Nat} (hd : 6 ≤ d) (hP : IsP G H O t p A g) (hI : IG g) (hy : TyO H O g y a nm) (hQ : ∀ H' r, Ks (fun _ => False) H H' → ChO H' (fun b => kd H b = 0) (nI 4 :: q_tight g y (nat g 40)) (some r) → kd H' r = 10 → Qr (some (vR (some r))) H') : AMet G d 13 91 yX2_full wX2_full H [vR (some p), vR (some a)] Qr Qx := by
  have hB := hI.1
  have hYY := hI.2.2.2.2.2.2.2.1
  obtain ⟨e, tr, tc, tf, tu, hV⟩ := PlV.of hP
  have hOp := OpR.of hB hYY hy
  have kp := hV.1.1
  have n12 := hV.2.2.1
  obtain ⟨n, hn⟩ : ∃ n, nat g 40 = n := ⟨_, rfl⟩
  rw [hn] at hV n12 hOp hQ
  have kr := hV.2.1.1
  have f10 := hV.1.2.1
  refine AMet.of (M := mX2_full) (maxL := 4) (by first | rfl | decide +kernel) rfl (Nat.le_of_ble_eq_true rfl) ?_
  show AW mX2_full _ _ _ _ _ _ _ 0 [some (vR (some p)), some (vR (some a)), none, none] []
  refine r_null dX2_full_0 ?_
  refine r_astore_n (i := 2) dX2_full_1 rfl (Nat.le_of_ble_eq_true rfl) (by simp only [lset]; rfl) ?_
  refine r_aload_n (i := 0) dX2_full_2 rfl rfl ?_
  refine r_getR dX2_full_3 fR_X2_25 (by first | assumption | (simp only [kd_sI, kd_sR, kd_sA, kd_sQ, kd_sL, kd_sD, ln_sI, ln_sR, ln_sA, ln_sQ, ln_sL, ln_sD, gI_sR, gI_sA, gI_sQ, gI_sL, gI_sD, gR_sI, gR_sA, gR_sQ, gR_sL, gR_sD, gA_sI, gA_sR, gA_sQ, gA_sL, gA_sD, gQ_sI, gQ_sR, gQ_sA, gQ_sL, gQ_sD, gL_sI, gL_sR, gL_sA, gL_sQ, gL_sD]; assumption) | simp [kd_sI, kd_sR, kd_sA, kd_sQ, kd_sL, kd_sD, ln_sI, ln_sR, ln_sA, ln_sQ, ln_sL, ln_sD, gI_sR, gI_sA, gI_sQ, gI_sL, gI_sD, gR_sI, gR_sA, gR_sQ, gR_sL, gR_sD, gA_sI, gA_sR, gA_sQ, gA_sL, gA_sD, gQ_sI, gQ_sR, gQ_sA, gQ_sL, gQ_sD, gL_sI, gL_sR, gL_sA, gL_sQ, gL_sD, kd_nO, kd_nA, *]) (by first | assumption | exact gI_sIs | exact gR_sRs | with_reducible rfl | (simp only [kd_sI, kd_sR, kd_sA, kd_sQ, kd_sL, kd_sD, ln_sI, ln_sR, ln_sA, ln_sQ, ln_sL, ln_sD, gI_sR, gI_sA, gI_sQ, gI_sL, gI_sD, gR_sI, gR_sA, gR_sQ, gR_sL, gR_sD, gA_sI, gA_sR, gA_sQ, gA_sL, gA_sD, gQ_sI, gQ_sR, gQ_sA, gQ_sL, gQ_sD, gL_sI, gL_sR, gL_sA, gL_sQ, gL_sD]; first | done | assumption | with_reducible rfl) | rfl) ?_
  refine r_callV (As := []) (mc' := 0) (ms' := 0) dX2_full_6 k_X2_88 rfl (by first | assumption | (simp only [kd_sI, kd_sR, kd_sA, kd_sQ, kd_sL, kd_sD, ln_sI, ln_sR, ln_sA, ln_sQ, ln_sL, ln_sD, gI_sR, gI_sA, gI_sQ, gI_sL, gI_sD, gR_sI, gR_sA, gR_sQ, gR_sL, gR_sD, gA_sI, gA_sR, gA_sQ, gA_sL, gA_sD, gQ_sI, gQ_sR, gQ_sA, gQ_sL, gQ_sD, gL_sI, gL_sR, gL_sA, gL_sQ, gL_sD]; assumption) | simp [kd_sI, kd_sR, kd_sA, kd_sQ, kd_sL, kd_sD, ln_sI, ln_sR, ln_sA, ln_sQ, ln_sL, ln_sD, gI_sR, gI_sA, gI_sQ, gI_sL, gI_sD, gR_sI, gR_sA, gR_sQ, gR_sL, gR_sD, gA_sI, gA_sR, gA_sQ, gA_sL, gA_sD, gQ_sI, gQ_sR, gQ_sA, gQ_sL, gQ_sD, gL_sI, gL_sR, gL_sA, gL_sQ, gL_sD, kd_nO, kd_nA, *]) (T := TJ2) (N := 3) rfl (by first | assumption | omega) (by first | assumption | omega) (by first | assumption | omega) (Nat.le_of_ble_eq_true rfl) ?_
  refine s_size hV.2.1.1 hV.2.1.2.1 ?_
  show AW mX2_full G d Qr Qx _ _ H 9 _ _
  refine r_iconst (v := nI 1) dX2_full_9 (by decide) ?_
  refine r_isub dX2_full_10 ?_
  refine r_istore_n (i := 3) dX2_full_11 rfl (Nat.le_of_ble_eq_true rfl) (by simp only [lset]; rfl) ?_
  have loop : ∀ (k i rc rs : Nat) (H2 : AH) (r : Option Nat), i + k = n → 1 + i ≤ rc → 7 + 7 * i ≤ rs → Ks (fun _ => False) H H2 → ChO H2 (fun b => kd H b = 0) (tgF g y i k) r → AW mX2_full G d Qr Qx rc rs H2 12 [some (vR (some p)), some (vR (some a)), some (vR r), some (vI (nI i - nI 1))] [] := by
    intro k i
    induction i generalizing k with
    | zero =>
      intro rc rs H2 r hi hrc hrs hK hC
      have hkn : k = n := by omega
      refine r_iload_n (i := 3) dX2_full_12 rfl rfl ?_
      refine r_if_lt (tgt := 45) dX2_full_13 (by decide) (fun h13 => ?_) (fun h13 => ?_)
      · refine r_new dX2_full_45 cT_X14 q2059 q2060 q132 (by decide +kernel) (by first | assumption | omega) (by first | assumption | omega) (fun q45 hq45 => ?_)
        have hq : kd H2 q45 = 0 := hq45
        refine AW.name (fun H3 hH3 => ?_)
        have K3 : Ks (fun _ => False) H2 H3 := by rw [hH3]; exact Ks.rf.nO hq
        have kq : kd H3 q45 = 10 := by rw [hH3, kd_nO, if_pos rfl]
        refine r_dup dX2_full_48 rfl ?_
        refine r_aload_n (i := 2) dX2_full_49 rfl rfl ?_
        refine r_callI (As := [_]) (mc' := 0) (ms' := 0) dX2_full_50 k_X2_204 rfl (by first | assumption | omega) (by first | assumption | omega) (by first | assumption | omega) (Nat.le_of_ble_eq_true rfl) ?_
        refine s_noRoomInit (by omega) kq (fun H4 hK4 h38 h44 => ?_)
        have K24 : Ks (fun _ => False) H2 H4 := K3.tr2 hK4 (fun b hb e => by rw [e] at hb; exact hb hq)
        have kq4 : kd H4 q45 = 10 := hK4.kk kq (by decide)
        show AW mX2_full G d Qr Qx _ _ H4 53 _ _
        refine r_areturn dX2_full_53 rfl (by first | exact Or.inl ⟨_, rfl⟩ | exact Or.inr ⟨_, rfl⟩) ?_
        refine hQ H4 q45 (hK.tr K24) ⟨q45, rfl, hK.fr hq, Or.inr kq4, h44, ?_⟩ kq4
        rw [h38, ← tgF_all, ← hkn]
        exact hC.ks K24 (fun _ _ _ h => h)
      · exact absurd (show nI 0 - nI 1 < 0 by decide) h13
    | succ i ih =>
      intro rc rs H2 r hi hrc hrs hK hC
      have hV2 := hV.ks hK (fun _ _ h => h.elim)
      obtain ⟨⟨w1, w2, w3⟩, v1, -, v3⟩ := hV2
      have hO2 := hy
      have ka : kd H2 a = 17 := hK.kk hy.1.1 (by decide)
      have ea := hK.at (a := a) (by rw [hy.1.1]; decide) (fun h => h)
      have es : nI (i + 1) - nI 1 = nI i := by rw [nI_sub (by omega), Nat.add_sub_cancel]
      rw [es]
      refine r_iload_n (i := 3) dX2_full_12 rfl rfl ?_
      refine r_if_lt (tgt := 45) dX2_full_13 (by decide) (fun h13 => ?_) (fun h13 => ?_)
      · exact absurd h13 (by rw [Int32.not_lt]; exact nI_le (Nat.zero_le i) (by omega))
      · refine r_aload_n (i := 0) dX2_full_16 rfl rfl ?_
        refine r_iload_n (i := 3) dX2_full_17 rfl rfl ?_
        refine r_aload_n (i := 1) dX2_full_18 rfl rfl ?_
        refine r_callV (As := [_, _]) (mc' := 0) (ms' := 0) dX2_full_19 k_X2_193 rfl (by first | assumption | (simp only [kd_sI, kd_sR, kd_sA, kd_sQ, kd_sL, kd_sD, ln_sI, ln_sR, ln_sA, ln_sQ, ln_sL, ln_sD, gI_sR, gI_sA, gI_sQ, gI_sL, gI_sD, gR_sI, gR_sA, gR_sQ, gR_sL, gR_sD, gA_sI, gA_sR, gA_sQ, gA_sL, gA_sD, gQ_sI, gQ_sR, gQ_sA, gQ_sL, gQ_sD, gL_sI, gL_sR, gL_sA, gL_sQ, gL_sD]; assumption) | simp [kd_sI, kd_sR, kd_sA, kd_sQ, kd_sL, kd_sD, ln_sI, ln_sR, ln_sA, ln_sQ, ln_sL, ln_sD, gI_sR, gI_sA, gI_sQ, gI_sL, gI_sD, gR_sI, gR_sA, gR_sQ, gR_sL, gR_sD, gA_sI, gA_sR, gA_sQ, gA_sL, gA_sD, gQ_sI, gQ_sR, gQ_sA, gQ_sL, gQ_sD, gL_sI, gL_sR, gL_sA, gL_sQ, gL_sD, kd_nO, kd_nA, *]) (T := TX2) (N := 8) rfl (by first | assumption | omega) (by first | assumption | omega) (by first | assumption | omega) (Nat.le_of_ble_eq_true rfl) ?_
        refine c_fits (lv := g (8 + 6 * y)) (ar := g (9 + 6 * y)) (by omega) w1 w2 w3 v1 (by omega) (by omega) (v3 i (by omega)) ka (by rw [at_gI ea]; exact hy.1.2.2.1) (by rw [at_gI ea]; exact hy.1.2.2.2) ?_
        rw [tvFor_place hB hYY (by omega)]
        show AW mX2_full G d Qr Qx _ _ H2 22 _ _
        have hst := tgF_s (g := g) (y := y) (i := i) (k := k)
        cases hpl : q_place g i y with
        | some j =>
          rw [hpl, if_neg (by simp)] at hst
          refine r_if_eq (tgt := 29) dX2_full_22 (by decide) (fun h22 => ?_) (fun h22 => ?_)
          · exact absurd (show (nI 1 : Int32) = 0 from h22) (by decide)
          · refine r_aload_n (i := 2) dX2_full_25 rfl rfl ?_
            refine r_goto (tgt := 38) dX2_full_26 (by decide) ?_
            refine r_astore_n (i := 2) dX2_full_38 rfl (Nat.le_of_ble_eq_true rfl) (by simp only [lset]; rfl) ?_
            refine r_iinc dX2_full_39 rfl (sub1 _) (by simp only [lset]; rfl) ?_
            refine r_goto (tgt := 12) dX2_full_42 (by decide) ?_
            exact ih (k + 1) _ _ H2 _ (by omega) (by omega) (by omega) hK (by rw [hst]; exact hC)
        | none =>
          rw [hpl, if_pos (by simp)] at hst
          refine r_if_eq (tgt := 29) dX2_full_22 (by decide) (fun h22 => ?_) (fun h22 => ?_)
          · refine r_new dX2_full_29 cT_X10 q2057 q1874 q127 (by decide +kernel) (by first | assumption | omega) (by first | assumption | omega) (fun q29 hq29 => ?_)
            have hq : kd H2 q29 = 0 := hq29
            refine AW.name (fun H3 hH3 => ?_)
            have K3 : Ks (fun _ => False) H2 H3 := by rw [hH3]; exact Ks.rf.nO hq
            have kq : kd H3 q29 = 9 := by rw [hH3, kd_nO, if_pos rfl]
            refine r_dup dX2_full_32 rfl ?_
            refine r_iload_n (i := 3) dX2_full_33 rfl rfl ?_
            refine r_aload_n (i := 2) dX2_full_34 rfl rfl ?_
            refine r_callI (As := [_, _]) (mc' := 0) (ms' := 0) dX2_full_35 k_X2_199 rfl (by first | assumption | omega) (by first | assumption | omega) (by first | assumption | omega) (Nat.le_of_ble_eq_true rfl) ?_
            refine s_refInitX10 (by omega) kq (fun H4 hK4 h38 h44 => ?_)
            have K24 : Ks (fun _ => False) H2 H4 := K3.tr2 hK4 (fun b hb e => by rw [e] at hb; exact hb hq)
            have kq4 : kd H4 q29 = 9 := hK4.kk kq (by decide)
            show AW mX2_full G d Qr Qx _ _ H4 38 _ _
            refine r_astore_n (i := 2) dX2_full_38 rfl (Nat.le_of_ble_eq_true rfl) (by simp only [lset]; rfl) ?_
            refine r_iinc dX2_full_39 rfl (sub1 _) (by simp only [lset]; rfl) ?_
            refine r_goto (tgt := 12) dX2_full_42 (by decide) ?_
            refine ih (k + 1) _ _ H4 _ (by omega) (by omega) (by omega) (hK.tr K24) ?_
            rw [hst]
            refine ⟨q29, rfl, hK.fr hq, Or.inl kq4, h44, ?_⟩
            rw [h38]
            exact hC.ks K24 (fun _ _ _ h => h)
          · exact absurd rfl h22
  have e0 : tgF g y n 0 = [] := rfl
  exact loop 0 n _ _ H none (by omega) (by omega) (by omega) Ks.rf (by rw [e0]; rfl)
end Way
