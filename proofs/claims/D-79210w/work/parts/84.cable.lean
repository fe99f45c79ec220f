set_option maxRecDepth 100000
/-! CABLES -/
theorem AW.st0 {M : MI} {G : Gl} {d : Nat} {Qr : Option AV → AH → Prop} {Qx : String → Nat → AH → Prop} {rc rs : Nat} {H : AH} {pc : Nat} {ls : List (Option AV)} {st : List AV} (k : kd H (gSt G 1) = 0 → AW M G d Qr Qx rc rs H pc ls st) : AW M G d Qr Qx rc rs H pc ls st := by
  intro mc ms p e R s m args below meth c hC Hc locs arr cells slots hR hS hl ha hc hs
  refine k ?_ mc ms p e R s m args below meth c hC Hc locs arr cells slots hR hS hl ha hc hs
  obtain ⟨cell, g1, g2, g3, g4, g5, g6, g7⟩ := hC.2.2.2.2.2.2.2.2.2.2.2.2.1.2.2.2.2.2.2.1.1
  obtain ⟨ws, h1, h2, h3, h4⟩ := hR
  by_cases h : kd H (gSt G 1) = 0
  · exact h
  · obtain ⟨j, hj⟩ := h3 _ h
    exact absurd (h2.2 _ _ hj) g7
section Cable
variable {G : Gl} {d : Nat} {Qr : Option AV → AH → Prop} {Qx : String → Nat → AH → Prop} {H : AH} {c rl re n : Nat} {st : Nat → Nat} {v : Nat → Int32}
/-- a cable c with the route list rl, its array re, the steps st; numbers v as the reference keeps them -/
def CaO (G : Gl) (H : AH) (c rl re : Nat) (st : Nat → Nat) (n : Nat) (v : Nat → Int32) : Prop := (kd H c = 4 ∧ gI H 23 c = v 0 ∧ gI H 24 c = v 1 ∧ gI H 25 c = v 2 ∧ gI H 26 c = v 3 ∧ gI H 28 c = v 5 ∧ gI H 29 c = v 6 ∧ gR H 27 c = some rl) ∧ v 4 = nI n ∧ n ≤ 7 ∧ LsO G H rl n st re ∧ ∀ i, i < n → kd H (st i) = 6 ∧ gI H 33 (st i) = v (7 + i) ∧ gI H 34 (st i) = v (14 + i)
theorem CaO.ks {H' : AH} {S : Nat → Prop} (h : CaO G H c rl re st n v) (hk : Ks S H H') (h1 : ¬ S c) (h2 : ¬ S rl) (h3 : kd H re = 4096 → ¬ S re) (h4 : ∀ i, i < n → ¬ S (st i)) : CaO G H' c rl re st n v := by
  obtain ⟨⟨a1, a2, a3, a4, a5, a6, a7, a8⟩, a9, a10, a11, a12⟩ := h
  have e1 := hk.at (a := c) (by rw [a1]; decide) h1
  refine ⟨⟨by rw [at_kd e1]; exact a1, by rw [at_gI e1]; exact a2, by rw [at_gI e1]; exact a3, by rw [at_gI e1]; exact a4, by rw [at_gI e1]; exact a5, by rw [at_gI e1]; exact a6, by rw [at_gI e1]; exact a7, by rw [at_gR e1]; exact a8⟩, a9, a10, a11.ks hk h2 h3, fun i hi => ?_⟩
  obtain ⟨b1, b2, b3⟩ := a12 i hi
  have e2 := hk.at (a := st i) (by rw [b1]; decide) (h4 i hi)
  exact ⟨by rw [at_kd e2]; exact b1, by rw [at_gI e2]; exact b2, by rw [at_gI e2]; exact b3⟩
theorem CaO.to {w : Nat → Int32} (h : CaO G H c rl re st n v) (h1 : ∀ k, k < 7 → v k = w k) (h2 : ∀ i, i < n → v (7 + i) = w (7 + i) ∧ v (14 + i) = w (14 + i)) : CaO G H c rl re st n w := by
  obtain ⟨⟨a1, a2, a3, a4, a5, a6, a7, a8⟩, a9, a10, a11, a12⟩ := h
  refine ⟨⟨a1, by rw [← h1 0 (by decide)]; exact a2, by rw [← h1 1 (by decide)]; exact a3, by rw [← h1 2 (by decide)]; exact a4, by rw [← h1 3 (by decide)]; exact a5, by rw [← h1 5 (by decide)]; exact a6, by rw [← h1 6 (by decide)]; exact a7, a8⟩, by rw [← h1 4 (by decide)]; exact a9, a10, a11, fun i hi => ?_⟩
  obtain ⟨b1, b2, b3⟩ := a12 i hi
  obtain ⟨c1, c2⟩ := h2 i hi
  exact ⟨b1, b2.trans c1, b3.trans c2⟩
def cv0 (x y z : Int32) (k : Nat) : Int32 := if k = 0 then x else if k = 1 then y else if k = 2 then z else if k = 6 then -1 else 0
theorem c_cableInit {x y z : Int32} (hd : 4 ≤ d) (hk : kd H c = 4) (hz : gI H 28 c = 0) (hQ : ∀ H' rl, Ks (fun a => a = c) H H' → kd H rl = 0 → CaO G H' c rl (gSt G 1) st 0 (cv0 x y z) → Qr none H') : AMet G d 1 3 yX5_init wX5_init H [vR (some c), vI x, vI y, vI z] Qr Qx := by
  refine AMet.of (M := mX5_init) (maxL := 4) (by first | rfl | decide +kernel) rfl (Nat.le_of_ble_eq_true rfl) ?_
  show AW mX5_init _ _ _ _ _ _ _ 0 [some (vR (some c)), some (vI x), some (vI y), some (vI z)] []
  refine r_aload_n (i := 0) dX5_init_0 rfl rfl ?_
  refine r_objInit dX5_init_1 q1491 (by with_reducible rfl) (by first | assumption | omega) (Nat.le_of_ble_eq_true rfl) ?_
  refine r_aload_n (i := 0) dX5_init_4 rfl rfl ?_
  refine r_iconst (v := nI 0) dX5_init_5 (by decide) ?_
  refine r_putI dX5_init_6 fG_X5_9 (fun _ => by first | rfl | contradiction) (by first | assumption | (simp only [kd_sI, kd_sR, kd_sA, kd_sQ, kd_sL, kd_sD, ln_sI, ln_sR, ln_sA, ln_sQ, ln_sL, ln_sD, gI_sR, gI_sA, gI_sQ, gI_sL, gI_sD, gR_sI, gR_sA, gR_sQ, gR_sL, gR_sD, gA_sI, gA_sR, gA_sQ, gA_sL, gA_sD, gQ_sI, gQ_sR, gQ_sA, gQ_sL, gQ_sD, gL_sI, gL_sR, gL_sA, gL_sQ, gL_sD]; assumption) | simp [kd_sI, kd_sR, kd_sA, kd_sQ, kd_sL, kd_sD, ln_sI, ln_sR, ln_sA, ln_sQ, ln_sL, ln_sD, gI_sR, gI_sA, gI_sQ, gI_sL, gI_sD, gR_sI, gR_sA, gR_sQ, gR_sL, gR_sD, gA_sI, gA_sR, gA_sQ, gA_sL, gA_sD, gQ_sI, gQ_sR, gQ_sA, gQ_sL, gQ_sD, gL_sI, gL_sR, gL_sA, gL_sQ, gL_sD, kd_nO, kd_nA, *]) (by first | rfl | assumption) (by first | rfl | assumption) ?_
  refine r_aload_n (i := 0) dX5_init_9 rfl rfl ?_
  refine r_new dX5_init_10 cT_J2 q1492 q156 q87 (by decide +kernel) (by first | assumption | omega) (by first | assumption | omega) (fun q10 hq10 => ?_)
  have hq : kd H q10 = 0 := hq10
  have hne : ¬ c = q10 := fun e => by rw [e, hq] at hk; exact absurd hk (by decide)
  refine AW.name (fun H1 hH1 => ?_)
  have hK1 : Ks (fun a => a = c) H H1 := by rw [hH1]; exact ((Ks.rf (S := fun a => a = c)).sI (fun _ => rfl)).nO hq
  have k1 : kd H1 c = 4 := hK1.kk hk (by decide)
  have kq : kd H1 q10 = 20 := by rw [hH1, kd_nO, if_pos rfl]
  have z1 : gI H1 97 q10 = 0 := by rw [hH1, gI_nO, if_pos rfl]
  have i26 : gI H1 26 c = 0 := by rw [hH1, gI_nO, if_neg hne, gI_sIs]; rfl
  have i28 : gI H1 28 c = 0 := by rw [hH1, gI_nO, if_neg hne, gI_sIn (by decide)]; exact hz
  refine r_dup dX5_init_13 rfl ?_
  refine r_callI (As := []) (mc' := 0) (ms' := 0) dX5_init_14 k_X5_17 rfl (by first | assumption | omega) (by first | assumption | omega) (by first | assumption | omega) (Nat.le_of_ble_eq_true rfl) ?_
  refine s_lsInit (xs := st) (by omega) kq z1 (fun H2 hK2 hL2 => ?_)
  have e0 := hK2.at (a := c) (by rw [k1]; decide) hne
  have k2 : kd H2 c = 4 := by rw [at_kd e0]; exact k1
  show AW mX5_init G d Qr Qx _ _ H2 17 _ _
  refine r_putR dX5_init_17 fG_X5_18 (fun _ => by first | rfl | contradiction) (by first | assumption | (simp only [kd_sI, kd_sR, kd_sA, kd_sQ, kd_sL, kd_sD, ln_sI, ln_sR, ln_sA, ln_sQ, ln_sL, ln_sD, gI_sR, gI_sA, gI_sQ, gI_sL, gI_sD, gR_sI, gR_sA, gR_sQ, gR_sL, gR_sD, gA_sI, gA_sR, gA_sQ, gA_sL, gA_sD, gQ_sI, gQ_sR, gQ_sA, gQ_sL, gQ_sD, gL_sI, gL_sR, gL_sA, gL_sQ, gL_sD]; assumption) | simp [kd_sI, kd_sR, kd_sA, kd_sQ, kd_sL, kd_sD, ln_sI, ln_sR, ln_sA, ln_sQ, ln_sL, ln_sD, gI_sR, gI_sA, gI_sQ, gI_sL, gI_sD, gR_sI, gR_sA, gR_sQ, gR_sL, gR_sD, gA_sI, gA_sR, gA_sQ, gA_sL, gA_sD, gQ_sI, gQ_sR, gQ_sA, gQ_sL, gQ_sD, gL_sI, gL_sR, gL_sA, gL_sQ, gL_sD, kd_nO, kd_nA, *]) (by first | exact Or.inl ⟨_, rfl⟩ | exact Or.inr ⟨_, rfl⟩) ?_
  refine r_aload_n (i := 0) dX5_init_20 rfl rfl ?_
  refine r_iconst (v := -1) dX5_init_21 (by decide) ?_
  refine r_putI dX5_init_22 fG_X5_22 (fun _ => by first | rfl | contradiction) (by first | assumption | (simp only [kd_sI, kd_sR, kd_sA, kd_sQ, kd_sL, kd_sD, ln_sI, ln_sR, ln_sA, ln_sQ, ln_sL, ln_sD, gI_sR, gI_sA, gI_sQ, gI_sL, gI_sD, gR_sI, gR_sA, gR_sQ, gR_sL, gR_sD, gA_sI, gA_sR, gA_sQ, gA_sL, gA_sD, gQ_sI, gQ_sR, gQ_sA, gQ_sL, gQ_sD, gL_sI, gL_sR, gL_sA, gL_sQ, gL_sD]; assumption) | simp [kd_sI, kd_sR, kd_sA, kd_sQ, kd_sL, kd_sD, ln_sI, ln_sR, ln_sA, ln_sQ, ln_sL, ln_sD, gI_sR, gI_sA, gI_sQ, gI_sL, gI_sD, gR_sI, gR_sA, gR_sQ, gR_sL, gR_sD, gA_sI, gA_sR, gA_sQ, gA_sL, gA_sD, gQ_sI, gQ_sR, gQ_sA, gQ_sL, gQ_sD, gL_sI, gL_sR, gL_sA, gL_sQ, gL_sD, kd_nO, kd_nA, *]) (by first | rfl | assumption) (by first | rfl | assumption) ?_
  refine r_aload_n (i := 0) dX5_init_25 rfl rfl ?_
  refine r_iload_n (i := 1) dX5_init_26 rfl rfl ?_
  refine r_putI dX5_init_27 fG_X5_25 (fun _ => by first | rfl | contradiction) (by first | assumption | (simp only [kd_sI, kd_sR, kd_sA, kd_sQ, kd_sL, kd_sD, ln_sI, ln_sR, ln_sA, ln_sQ, ln_sL, ln_sD, gI_sR, gI_sA, gI_sQ, gI_sL, gI_sD, gR_sI, gR_sA, gR_sQ, gR_sL, gR_sD, gA_sI, gA_sR, gA_sQ, gA_sL, gA_sD, gQ_sI, gQ_sR, gQ_sA, gQ_sL, gQ_sD, gL_sI, gL_sR, gL_sA, gL_sQ, gL_sD]; assumption) | simp [kd_sI, kd_sR, kd_sA, kd_sQ, kd_sL, kd_sD, ln_sI, ln_sR, ln_sA, ln_sQ, ln_sL, ln_sD, gI_sR, gI_sA, gI_sQ, gI_sL, gI_sD, gR_sI, gR_sA, gR_sQ, gR_sL, gR_sD, gA_sI, gA_sR, gA_sQ, gA_sL, gA_sD, gQ_sI, gQ_sR, gQ_sA, gQ_sL, gQ_sD, gL_sI, gL_sR, gL_sA, gL_sQ, gL_sD, kd_nO, kd_nA, *]) (by first | rfl | assumption) (by first | rfl | assumption) ?_
  refine r_aload_n (i := 0) dX5_init_30 rfl rfl ?_
  refine r_iload_n (i := 2) dX5_init_31 rfl rfl ?_
  refine r_putI dX5_init_32 fG_X5_28 (fun _ => by first | rfl | contradiction) (by first | assumption | (simp only [kd_sI, kd_sR, kd_sA, kd_sQ, kd_sL, kd_sD, ln_sI, ln_sR, ln_sA, ln_sQ, ln_sL, ln_sD, gI_sR, gI_sA, gI_sQ, gI_sL, gI_sD, gR_sI, gR_sA, gR_sQ, gR_sL, gR_sD, gA_sI, gA_sR, gA_sQ, gA_sL, gA_sD, gQ_sI, gQ_sR, gQ_sA, gQ_sL, gQ_sD, gL_sI, gL_sR, gL_sA, gL_sQ, gL_sD]; assumption) | simp [kd_sI, kd_sR, kd_sA, kd_sQ, kd_sL, kd_sD, ln_sI, ln_sR, ln_sA, ln_sQ, ln_sL, ln_sD, gI_sR, gI_sA, gI_sQ, gI_sL, gI_sD, gR_sI, gR_sA, gR_sQ, gR_sL, gR_sD, gA_sI, gA_sR, gA_sQ, gA_sL, gA_sD, gQ_sI, gQ_sR, gQ_sA, gQ_sL, gQ_sD, gL_sI, gL_sR, gL_sA, gL_sQ, gL_sD, kd_nO, kd_nA, *]) (by first | rfl | assumption) (by first | rfl | assumption) ?_
  refine r_aload_n (i := 0) dX5_init_35 rfl rfl ?_
  refine r_iload_n (i := 3) dX5_init_36 rfl rfl ?_
  refine r_putI dX5_init_37 fG_X5_31 (fun _ => by first | rfl | contradiction) (by first | assumption | (simp only [kd_sI, kd_sR, kd_sA, kd_sQ, kd_sL, kd_sD, ln_sI, ln_sR, ln_sA, ln_sQ, ln_sL, ln_sD, gI_sR, gI_sA, gI_sQ, gI_sL, gI_sD, gR_sI, gR_sA, gR_sQ, gR_sL, gR_sD, gA_sI, gA_sR, gA_sQ, gA_sL, gA_sD, gQ_sI, gQ_sR, gQ_sA, gQ_sL, gQ_sD, gL_sI, gL_sR, gL_sA, gL_sQ, gL_sD]; assumption) | simp [kd_sI, kd_sR, kd_sA, kd_sQ, kd_sL, kd_sD, ln_sI, ln_sR, ln_sA, ln_sQ, ln_sL, ln_sD, gI_sR, gI_sA, gI_sQ, gI_sL, gI_sD, gR_sI, gR_sA, gR_sQ, gR_sL, gR_sD, gA_sI, gA_sR, gA_sQ, gA_sL, gA_sD, gQ_sI, gQ_sR, gQ_sA, gQ_sL, gQ_sD, gL_sI, gL_sR, gL_sA, gL_sQ, gL_sD, kd_nO, kd_nA, *]) (by first | rfl | assumption) (by first | rfl | assumption) ?_
  refine r_return dX5_init_40 rfl ?_
  have hK3 : Ks (fun a => a = c) H2 (sI (sI (sI (sI (sR H2 27 c (some q10)) 29 c (-1)) 23 c x) 24 c y) 25 c z) := (((((Ks.rf (S := fun a => a = c)).sR (fun _ => rfl)).sI (fun _ => rfl)).sI (fun _ => rfl)).sI (fun _ => rfl)).sI (fun _ => rfl)
  refine hQ _ q10 ((hK1.tr2 hK2 (fun a ha e => absurd hq (by rw [← e]; exact ha))).tr hK3) hq ⟨⟨k2, ?_, ?_, gI_sIs, ?_, ?_, ?_, ?_⟩, rfl, by omega, hL2.ks hK3 (fun e => hne e.symm) (fun k e => ?_), fun i hi => absurd hi (by omega)⟩
  · rw [gI_sIn (by decide), gI_sIn (by decide), gI_sIs]
    rfl
  · rw [gI_sIn (by decide), gI_sIs]
    rfl
  · rw [gI_sIn (by decide), gI_sIn (by decide), gI_sIn (by decide), gI_sIn (by decide)]
    show gI H2 26 c = 0
    rw [at_gI e0]
    exact i26
  · rw [gI_sIn (by decide), gI_sIn (by decide), gI_sIn (by decide), gI_sIn (by decide)]
    show gI H2 28 c = 0
    rw [at_gI e0]
    exact i28
  · rw [gI_sIn (by decide), gI_sIn (by decide), gI_sIn (by decide), gI_sIs]
    rfl
  · show gR (sR H2 27 c (some q10)) 27 c = some q10
    exact gR_sRs
  · rw [e, k2] at k
    exact absurd k (by decide)
/-- the compartment in a tray -/
def cvIn (v : Nat → Int32) (n : Nat) (t : Int32) : Int32 := match find9 (fun i => v (7 + i) == t) 0 n with
  | some i => v (14 + i)
  | none => -1
theorem c_compIn {t : Int32} (hd : 3 ≤ d) (h : CaO G H c rl re st n v) (hQ : ∀ H', Ks (fun _ => False) H H' → Qr (some (vI (cvIn v n t))) H') : AMet G d 1 4 yX5_compartmentIn wX5_compartmentIn H [vR (some c), vI t] Qr Qx := by
  have h0 := h
  obtain ⟨⟨a1, a2, a3, a4, a5, a6, a7, a8⟩, a9, a10, a11, a12⟩ := h
  refine AMet.of (M := mX5_compartmentIn) (maxL := 4) (by first | rfl | decide +kernel) rfl (Nat.le_of_ble_eq_true rfl) ?_
  show AW mX5_compartmentIn _ _ _ _ _ _ _ 0 [some (vR (some c)), some (vI t), none, none] []
  have kr := a11.1
  refine r_aload_n (i := 0) dX5_compartmentIn_0 rfl rfl ?_
  refine r_getR dX5_compartmentIn_1 fR_X5_18 (by first | assumption | (simp only [kd_sI, kd_sR, kd_sA, kd_sQ, kd_sL, kd_sD, ln_sI, ln_sR, ln_sA, ln_sQ, ln_sL, ln_sD, gI_sR, gI_sA, gI_sQ, gI_sL, gI_sD, gR_sI, gR_sA, gR_sQ, gR_sL, gR_sD, gA_sI, gA_sR, gA_sQ, gA_sL, gA_sD, gQ_sI, gQ_sR, gQ_sA, gQ_sL, gQ_sD, gL_sI, gL_sR, gL_sA, gL_sQ, gL_sD]; assumption) | simp [kd_sI, kd_sR, kd_sA, kd_sQ, kd_sL, kd_sD, ln_sI, ln_sR, ln_sA, ln_sQ, ln_sL, ln_sD, gI_sR, gI_sA, gI_sQ, gI_sL, gI_sD, gR_sI, gR_sA, gR_sQ, gR_sL, gR_sD, gA_sI, gA_sR, gA_sQ, gA_sL, gA_sD, gQ_sI, gQ_sR, gQ_sA, gQ_sL, gQ_sD, gL_sI, gL_sR, gL_sA, gL_sQ, gL_sD, kd_nO, kd_nA, *]) (by first | assumption | exact gI_sIs | exact gR_sRs | with_reducible rfl | (simp only [kd_sI, kd_sR, kd_sA, kd_sQ, kd_sL, kd_sD, ln_sI, ln_sR, ln_sA, ln_sQ, ln_sL, ln_sD, gI_sR, gI_sA, gI_sQ, gI_sL, gI_sD, gR_sI, gR_sA, gR_sQ, gR_sL, gR_sD, gA_sI, gA_sR, gA_sQ, gA_sL, gA_sD, gQ_sI, gQ_sR, gQ_sA, gQ_sL, gQ_sD, gL_sI, gL_sR, gL_sA, gL_sQ, gL_sD]; first | done | assumption | with_reducible rfl) | rfl) ?_
  refine r_callV (As := []) (mc' := 1) (ms' := 4) dX5_compartmentIn_4 k_X5_44 rfl (by first | assumption | (simp only [kd_sI, kd_sR, kd_sA, kd_sQ, kd_sL, kd_sD, ln_sI, ln_sR, ln_sA, ln_sQ, ln_sL, ln_sD, gI_sR, gI_sA, gI_sQ, gI_sL, gI_sD, gR_sI, gR_sA, gR_sQ, gR_sL, gR_sD, gA_sI, gA_sR, gA_sQ, gA_sL, gA_sD, gQ_sI, gQ_sR, gQ_sA, gQ_sL, gQ_sD, gL_sI, gL_sR, gL_sA, gL_sQ, gL_sD]; assumption) | simp [kd_sI, kd_sR, kd_sA, kd_sQ, kd_sL, kd_sD, ln_sI, ln_sR, ln_sA, ln_sQ, ln_sL, ln_sD, gI_sR, gI_sA, gI_sQ, gI_sL, gI_sD, gR_sI, gR_sA, gR_sQ, gR_sL, gR_sD, gA_sI, gA_sR, gA_sQ, gA_sL, gA_sD, gQ_sI, gQ_sR, gQ_sA, gQ_sL, gQ_sD, gL_sI, gL_sR, gL_sA, gL_sQ, gL_sD, kd_nO, kd_nA, *]) (T := TJ2) (N := 3) rfl (by first | assumption | omega) (by first | assumption | omega) (by first | assumption | omega) (Nat.le_of_ble_eq_true rfl) ?_
  refine s_iterator (by omega) a11.1 (fun H1 it hit hK1 hI1 => ?_)
  have ne0 : ∀ a, kd H a ≠ 0 → ¬ a = it := fun a ha e => by rw [e, hit] at ha; exact ha rfl
  show AW mX5_compartmentIn G d Qr Qx _ _ H1 7 _ _
  refine r_astore_n (i := 2) dX5_compartmentIn_7 rfl (Nat.le_of_ble_eq_true rfl) (by simp only [lset]; rfl) ?_
  have loop : ∀ (k i rc rs : Nat) (H2 : AH) (l3 : Option AV), i + k = n → Ks (fun a => a = it) H1 H2 → ItS H2 it rl i → (∀ j, j < i → (v (7 + j) == t) = false) → AW mX5_compartmentIn G d Qr Qx rc rs H2 8 [some (vR (some c)), some (vI t), some (vR (some it)), l3] [] := by
    intro k
    induction k with
    | zero =>
      intro i rc rs H2 l3 hi hK hI hno
      have hK2 : Ks (fun _ => False) H H2 := hK1.tr2 hK (fun a ha e => ne0 a ha e)
      have h2 := h0.ks hK2 (fun h => h) (fun h => h) (fun _ h => h) (fun _ _ h => h)
      obtain ⟨-, -, -, b11, -⟩ := h2
      have ki := hI.1
      refine r_aload_n (i := 2) dX5_compartmentIn_8 rfl rfl ?_
      refine r_callF (As := []) (mc' := 0) (ms' := 0) dX5_compartmentIn_9 k_X5_48_J14 rfl (by first | assumption | (simp only [kd_sI, kd_sR, kd_sA, kd_sQ, kd_sL, kd_sD, ln_sI, ln_sR, ln_sA, ln_sQ, ln_sL, ln_sD, gI_sR, gI_sA, gI_sQ, gI_sL, gI_sD, gR_sI, gR_sA, gR_sQ, gR_sL, gR_sD, gA_sI, gA_sR, gA_sQ, gA_sL, gA_sD, gQ_sI, gQ_sR, gQ_sA, gQ_sL, gQ_sD, gL_sI, gL_sR, gL_sA, gL_sQ, gL_sD]; assumption) | simp [kd_sI, kd_sR, kd_sA, kd_sQ, kd_sL, kd_sD, ln_sI, ln_sR, ln_sA, ln_sQ, ln_sL, ln_sD, gI_sR, gI_sA, gI_sQ, gI_sL, gI_sD, gR_sI, gR_sA, gR_sQ, gR_sL, gR_sD, gA_sI, gA_sR, gA_sQ, gA_sL, gA_sD, gQ_sI, gQ_sR, gQ_sA, gQ_sL, gQ_sD, gL_sI, gL_sR, gL_sA, gL_sQ, gL_sD, kd_nO, kd_nA, *]) (T := TJ14) (N := 4) rfl (by first | assumption | omega) (by first | assumption | omega) (by first | assumption | omega) (Nat.le_of_ble_eq_true rfl) ?_
      refine s_hasNext hI b11.1 b11.2.1 (by omega) (by omega) ?_
      rw [if_pos (by omega)]
      refine r_if_eq (tgt := 43) dX5_compartmentIn_14 (by decide) (fun h14 => ?_) (fun h14 => ?_)
      · refine r_iconst (v := -1) dX5_compartmentIn_43 (by decide) ?_
        refine r_ireturn dX5_compartmentIn_44 rfl (by first | rfl | assumption | exact vp_nar_int _ | exact pk_nc _) ?_
        have e := hQ H2 hK2
        unfold cvIn at e
        rw [find9_isno (fun x _ hx => hno x (by omega))] at e
        exact e
      · exact absurd rfl h14
    | succ k ih =>
      intro i rc rs H2 l3 hi hK hI hno
      have hK2 : Ks (fun _ => False) H H2 := hK1.tr2 hK (fun a ha e => ne0 a ha e)
      have h2 := h0.ks hK2 (fun h => h) (fun h => h) (fun _ h => h) (fun _ _ h => h)
      obtain ⟨-, -, -, b11, -⟩ := h2
      have ki := hI.1
      refine r_aload_n (i := 2) dX5_compartmentIn_8 rfl rfl ?_
      refine r_callF (As := []) (mc' := 0) (ms' := 0) dX5_compartmentIn_9 k_X5_48_J14 rfl (by first | assumption | (simp only [kd_sI, kd_sR, kd_sA, kd_sQ, kd_sL, kd_sD, ln_sI, ln_sR, ln_sA, ln_sQ, ln_sL, ln_sD, gI_sR, gI_sA, gI_sQ, gI_sL, gI_sD, gR_sI, gR_sA, gR_sQ, gR_sL, gR_sD, gA_sI, gA_sR, gA_sQ, gA_sL, gA_sD, gQ_sI, gQ_sR, gQ_sA, gQ_sL, gQ_sD, gL_sI, gL_sR, gL_sA, gL_sQ, gL_sD]; assumption) | simp [kd_sI, kd_sR, kd_sA, kd_sQ, kd_sL, kd_sD, ln_sI, ln_sR, ln_sA, ln_sQ, ln_sL, ln_sD, gI_sR, gI_sA, gI_sQ, gI_sL, gI_sD, gR_sI, gR_sA, gR_sQ, gR_sL, gR_sD, gA_sI, gA_sR, gA_sQ, gA_sL, gA_sD, gQ_sI, gQ_sR, gQ_sA, gQ_sL, gQ_sD, gL_sI, gL_sR, gL_sA, gL_sQ, gL_sD, kd_nO, kd_nA, *]) (T := TJ14) (N := 4) rfl (by first | assumption | omega) (by first | assumption | omega) (by first | assumption | omega) (Nat.le_of_ble_eq_true rfl) ?_
      refine s_hasNext hI b11.1 b11.2.1 (by omega) (by omega) ?_
      rw [if_neg (by omega)]
      refine r_if_eq (tgt := 43) dX5_compartmentIn_14 (by decide) (fun h14 => ?_) (fun h14 => ?_)
      · exact absurd h14 (by decide)
      · refine r_aload_n (i := 2) dX5_compartmentIn_17 rfl rfl ?_
        refine r_callF (As := []) (mc' := 0) (ms' := 0) dX5_compartmentIn_18 k_X5_54_J14 rfl (by first | assumption | (simp only [kd_sI, kd_sR, kd_sA, kd_sQ, kd_sL, kd_sD, ln_sI, ln_sR, ln_sA, ln_sQ, ln_sL, ln_sD, gI_sR, gI_sA, gI_sQ, gI_sL, gI_sD, gR_sI, gR_sA, gR_sQ, gR_sL, gR_sD, gA_sI, gA_sR, gA_sQ, gA_sL, gA_sD, gQ_sI, gQ_sR, gQ_sA, gQ_sL, gQ_sD, gL_sI, gL_sR, gL_sA, gL_sQ, gL_sD]; assumption) | simp [kd_sI, kd_sR, kd_sA, kd_sQ, kd_sL, kd_sD, ln_sI, ln_sR, ln_sA, ln_sQ, ln_sL, ln_sD, gI_sR, gI_sA, gI_sQ, gI_sL, gI_sD, gR_sI, gR_sA, gR_sQ, gR_sL, gR_sD, gA_sI, gA_sR, gA_sQ, gA_sL, gA_sD, gQ_sI, gQ_sR, gQ_sA, gQ_sL, gQ_sD, gL_sI, gL_sR, gL_sA, gL_sQ, gL_sD, kd_nO, kd_nA, *]) (T := TJ14) (N := 4) rfl (by first | assumption | omega) (by first | assumption | omega) (by first | assumption | omega) (Nat.le_of_ble_eq_true rfl) ?_
        refine s_next (by omega) hI b11 (by omega) (by omega) (fun H3 hK3 hI3 => ?_)
        have hK4 : Ks (fun a => a = it) H1 H3 := hK.tr hK3
        have hK5 : Ks (fun _ => False) H H3 := hK1.tr2 hK4 (fun a ha e => ne0 a ha e)
        have h3 := h0.ks hK5 (fun h => h) (fun h => h) (fun _ h => h) (fun _ _ h => h)
        obtain ⟨-, -, -, -, b12⟩ := h3
        obtain ⟨d1, d2, d3⟩ := b12 i (by omega)
        show AW mX5_compartmentIn G d Qr Qx _ _ H3 23 _ _
        refine r_cast dX5_compartmentIn_23 (by first | assumption | (simp only [kd_sI, kd_sR, kd_sA, kd_sQ, kd_sL, kd_sD, ln_sI, ln_sR, ln_sA, ln_sQ, ln_sL, ln_sD, gI_sR, gI_sA, gI_sQ, gI_sL, gI_sD, gR_sI, gR_sA, gR_sQ, gR_sL, gR_sD, gA_sI, gA_sR, gA_sQ, gA_sL, gA_sD, gQ_sI, gQ_sR, gQ_sA, gQ_sL, gQ_sD, gL_sI, gL_sR, gL_sA, gL_sQ, gL_sD]; assumption) | simp [kd_sI, kd_sR, kd_sA, kd_sQ, kd_sL, kd_sD, ln_sI, ln_sR, ln_sA, ln_sQ, ln_sL, ln_sD, gI_sR, gI_sA, gI_sQ, gI_sL, gI_sD, gR_sI, gR_sA, gR_sQ, gR_sL, gR_sD, gA_sI, gA_sR, gA_sQ, gA_sL, gA_sD, gQ_sI, gQ_sR, gQ_sA, gQ_sL, gQ_sD, gL_sI, gL_sR, gL_sA, gL_sQ, gL_sD, kd_nO, kd_nA, *]) (T := TX7) (N := 2) rfl q1253 (Or.inl rfl) ?_
        refine r_astore_n (i := 3) dX5_compartmentIn_26 rfl (Nat.le_of_ble_eq_true rfl) (by simp only [lset]; rfl) ?_
        refine r_aload_n (i := 3) dX5_compartmentIn_27 rfl rfl ?_
        refine r_getI dX5_compartmentIn_28 fR_X5_60 (by first | assumption | (simp only [kd_sI, kd_sR, kd_sA, kd_sQ, kd_sL, kd_sD, ln_sI, ln_sR, ln_sA, ln_sQ, ln_sL, ln_sD, gI_sR, gI_sA, gI_sQ, gI_sL, gI_sD, gR_sI, gR_sA, gR_sQ, gR_sL, gR_sD, gA_sI, gA_sR, gA_sQ, gA_sL, gA_sD, gQ_sI, gQ_sR, gQ_sA, gQ_sL, gQ_sD, gL_sI, gL_sR, gL_sA, gL_sQ, gL_sD]; assumption) | simp [kd_sI, kd_sR, kd_sA, kd_sQ, kd_sL, kd_sD, ln_sI, ln_sR, ln_sA, ln_sQ, ln_sL, ln_sD, gI_sR, gI_sA, gI_sQ, gI_sL, gI_sD, gR_sI, gR_sA, gR_sQ, gR_sL, gR_sD, gA_sI, gA_sR, gA_sQ, gA_sL, gA_sD, gQ_sI, gQ_sR, gQ_sA, gQ_sL, gQ_sD, gL_sI, gL_sR, gL_sA, gL_sQ, gL_sD, kd_nO, kd_nA, *]) (by first | assumption | exact gI_sIs | exact gR_sRs | with_reducible rfl | (simp only [kd_sI, kd_sR, kd_sA, kd_sQ, kd_sL, kd_sD, ln_sI, ln_sR, ln_sA, ln_sQ, ln_sL, ln_sD, gI_sR, gI_sA, gI_sQ, gI_sL, gI_sD, gR_sI, gR_sA, gR_sQ, gR_sL, gR_sD, gA_sI, gA_sR, gA_sQ, gA_sL, gA_sD, gQ_sI, gQ_sR, gQ_sA, gQ_sL, gQ_sD, gL_sI, gL_sR, gL_sA, gL_sQ, gL_sD]; first | done | assumption | with_reducible rfl) | rfl) ?_
        refine r_iload_n (i := 1) dX5_compartmentIn_31 rfl rfl ?_
        refine r_icmp_ne (tgt := 40) dX5_compartmentIn_32 (by decide) (fun h32 => ?_) (fun h32 => ?_)
        · refine r_goto (tgt := 8) dX5_compartmentIn_40 (by decide) ?_
          refine ih (i + 1) _ _ H3 _ (by omega) hK4 hI3 (fun j hj => ?_)
          by_cases hj2 : j = i
          · rw [hj2]
            simpa using h32
          · exact hno j (by omega)
        · refine r_aload_n (i := 3) dX5_compartmentIn_35 rfl rfl ?_
          refine r_getI dX5_compartmentIn_36 fR_X5_63 (by first | assumption | (simp only [kd_sI, kd_sR, kd_sA, kd_sQ, kd_sL, kd_sD, ln_sI, ln_sR, ln_sA, ln_sQ, ln_sL, ln_sD, gI_sR, gI_sA, gI_sQ, gI_sL, gI_sD, gR_sI, gR_sA, gR_sQ, gR_sL, gR_sD, gA_sI, gA_sR, gA_sQ, gA_sL, gA_sD, gQ_sI, gQ_sR, gQ_sA, gQ_sL, gQ_sD, gL_sI, gL_sR, gL_sA, gL_sQ, gL_sD]; assumption) | simp [kd_sI, kd_sR, kd_sA, kd_sQ, kd_sL, kd_sD, ln_sI, ln_sR, ln_sA, ln_sQ, ln_sL, ln_sD, gI_sR, gI_sA, gI_sQ, gI_sL, gI_sD, gR_sI, gR_sA, gR_sQ, gR_sL, gR_sD, gA_sI, gA_sR, gA_sQ, gA_sL, gA_sD, gQ_sI, gQ_sR, gQ_sA, gQ_sL, gQ_sD, gL_sI, gL_sR, gL_sA, gL_sQ, gL_sD, kd_nO, kd_nA, *]) (by first | assumption | exact gI_sIs | exact gR_sRs | with_reducible rfl | (simp only [kd_sI, kd_sR, kd_sA, kd_sQ, kd_sL, kd_sD, ln_sI, ln_sR, ln_sA, ln_sQ, ln_sL, ln_sD, gI_sR, gI_sA, gI_sQ, gI_sL, gI_sD, gR_sI, gR_sA, gR_sQ, gR_sL, gR_sD, gA_sI, gA_sR, gA_sQ, gA_sL, gA_sD, gQ_sI, gQ_sR, gQ_sA, gQ_sL, gQ_sD, gL_sI, gL_sR, gL_sA, gL_sQ, gL_sD]; first | done | assumption | with_reducible rfl) | rfl) ?_
          refine r_ireturn dX5_compartmentIn_39 rfl (by first | rfl | assumption | exact vp_nar_int _ | exact pk_nc _) ?_
          have e := hQ H3 hK5
          unfold cvIn at e
          rw [find9_is (j := i) (by omega) (by omega) (by simpa using h32) (fun x _ hx => hno x hx)] at e
          exact e
  exact loop n 0 _ _ H1 _ (by omega) Ks.rf hI1 (fun j hj => absurd hj (by omega))
theorem c_cableCopy (hd : 6 ≤ d) (h : CaO G H c rl re st n v) (hQ : ∀ H' c' rl' re', Ks (fun _ => False) H H' → kd H c' = 0 → kd H rl' = 0 → (re' = gSt G 1 ∨ kd H re' = 0) → CaO G H' c' rl' re' st n v → Qr (some (vR (some c'))) H') : AMet G d 4 27 yX5_copy wX5_copy H [vR (some c)] Qr Qx := by
  have h0 := h
  have hn7 : n ≤ 7 := h.2.2.1
  obtain ⟨⟨a1, a2, a3, a4, a5, a6, a7, a8⟩, a9, a10, a11, a12⟩ := h
  refine AMet.of (M := mX5_copy) (maxL := 3) (by first | rfl | decide +kernel) rfl (Nat.le_of_ble_eq_true rfl) ?_
  show AW mX5_copy _ _ _ _ _ _ _ 0 [some (vR (some c)), none, none] []
  refine r_new dX5_copy_0 cT_X5 q1486 q1487 q119 (by decide +kernel) (by first | assumption | omega) (by first | assumption | omega) (fun q0 hq0 => ?_)
  refine r_dup dX5_copy_3 rfl ?_
  have ne0 : ∀ a, kd H a ≠ 0 → ¬ a = q0 := fun a ha e => by rw [e, hq0] at ha; exact ha rfl
  refine AW.name (fun H1 hH1 => ?_)
  have hK1 : Ks (fun _ => False) H H1 := by rw [hH1]; exact Ks.rf.nO hq0
  have hC1 := h0.ks hK1 (fun h => h) (fun h => h) (fun _ h => h) (fun _ _ h => h)
  obtain ⟨⟨b1, b2, b3, b4, b5, b6, b7, b8⟩, -, -, b11, -⟩ := hC1
  have kq : kd H1 q0 = 4 := by rw [hH1, kd_nO, if_pos rfl]
  have z1 : gI H1 28 q0 = 0 := by rw [hH1, gI_nO, if_pos rfl]
  refine r_aload_n (i := 0) dX5_copy_4 rfl rfl ?_
  refine r_getI dX5_copy_5 fR_X5_25 (by first | assumption | (simp only [kd_sI, kd_sR, kd_sA, kd_sQ, kd_sL, kd_sD, ln_sI, ln_sR, ln_sA, ln_sQ, ln_sL, ln_sD, gI_sR, gI_sA, gI_sQ, gI_sL, gI_sD, gR_sI, gR_sA, gR_sQ, gR_sL, gR_sD, gA_sI, gA_sR, gA_sQ, gA_sL, gA_sD, gQ_sI, gQ_sR, gQ_sA, gQ_sL, gQ_sD, gL_sI, gL_sR, gL_sA, gL_sQ, gL_sD]; assumption) | simp [kd_sI, kd_sR, kd_sA, kd_sQ, kd_sL, kd_sD, ln_sI, ln_sR, ln_sA, ln_sQ, ln_sL, ln_sD, gI_sR, gI_sA, gI_sQ, gI_sL, gI_sD, gR_sI, gR_sA, gR_sQ, gR_sL, gR_sD, gA_sI, gA_sR, gA_sQ, gA_sL, gA_sD, gQ_sI, gQ_sR, gQ_sA, gQ_sL, gQ_sD, gL_sI, gL_sR, gL_sA, gL_sQ, gL_sD, kd_nO, kd_nA, *]) (by first | assumption | exact gI_sIs | exact gR_sRs | with_reducible rfl | (simp only [kd_sI, kd_sR, kd_sA, kd_sQ, kd_sL, kd_sD, ln_sI, ln_sR, ln_sA, ln_sQ, ln_sL, ln_sD, gI_sR, gI_sA, gI_sQ, gI_sL, gI_sD, gR_sI, gR_sA, gR_sQ, gR_sL, gR_sD, gA_sI, gA_sR, gA_sQ, gA_sL, gA_sD, gQ_sI, gQ_sR, gQ_sA, gQ_sL, gQ_sD, gL_sI, gL_sR, gL_sA, gL_sQ, gL_sD]; first | done | assumption | with_reducible rfl) | rfl) ?_
  refine r_aload_n (i := 0) dX5_copy_8 rfl rfl ?_
  refine r_getI dX5_copy_9 fR_X5_28 (by first | assumption | (simp only [kd_sI, kd_sR, kd_sA, kd_sQ, kd_sL, kd_sD, ln_sI, ln_sR, ln_sA, ln_sQ, ln_sL, ln_sD, gI_sR, gI_sA, gI_sQ, gI_sL, gI_sD, gR_sI, gR_sA, gR_sQ, gR_sL, gR_sD, gA_sI, gA_sR, gA_sQ, gA_sL, gA_sD, gQ_sI, gQ_sR, gQ_sA, gQ_sL, gQ_sD, gL_sI, gL_sR, gL_sA, gL_sQ, gL_sD]; assumption) | simp [kd_sI, kd_sR, kd_sA, kd_sQ, kd_sL, kd_sD, ln_sI, ln_sR, ln_sA, ln_sQ, ln_sL, ln_sD, gI_sR, gI_sA, gI_sQ, gI_sL, gI_sD, gR_sI, gR_sA, gR_sQ, gR_sL, gR_sD, gA_sI, gA_sR, gA_sQ, gA_sL, gA_sD, gQ_sI, gQ_sR, gQ_sA, gQ_sL, gQ_sD, gL_sI, gL_sR, gL_sA, gL_sQ, gL_sD, kd_nO, kd_nA, *]) (by first | assumption | exact gI_sIs | exact gR_sRs | with_reducible rfl | (simp only [kd_sI, kd_sR, kd_sA, kd_sQ, kd_sL, kd_sD, ln_sI, ln_sR, ln_sA, ln_sQ, ln_sL, ln_sD, gI_sR, gI_sA, gI_sQ, gI_sL, gI_sD, gR_sI, gR_sA, gR_sQ, gR_sL, gR_sD, gA_sI, gA_sR, gA_sQ, gA_sL, gA_sD, gQ_sI, gQ_sR, gQ_sA, gQ_sL, gQ_sD, gL_sI, gL_sR, gL_sA, gL_sQ, gL_sD]; first | done | assumption | with_reducible rfl) | rfl) ?_
  refine r_aload_n (i := 0) dX5_copy_12 rfl rfl ?_
  refine r_getI dX5_copy_13 fR_X5_31 (by first | assumption | (simp only [kd_sI, kd_sR, kd_sA, kd_sQ, kd_sL, kd_sD, ln_sI, ln_sR, ln_sA, ln_sQ, ln_sL, ln_sD, gI_sR, gI_sA, gI_sQ, gI_sL, gI_sD, gR_sI, gR_sA, gR_sQ, gR_sL, gR_sD, gA_sI, gA_sR, gA_sQ, gA_sL, gA_sD, gQ_sI, gQ_sR, gQ_sA, gQ_sL, gQ_sD, gL_sI, gL_sR, gL_sA, gL_sQ, gL_sD]; assumption) | simp [kd_sI, kd_sR, kd_sA, kd_sQ, kd_sL, kd_sD, ln_sI, ln_sR, ln_sA, ln_sQ, ln_sL, ln_sD, gI_sR, gI_sA, gI_sQ, gI_sL, gI_sD, gR_sI, gR_sA, gR_sQ, gR_sL, gR_sD, gA_sI, gA_sR, gA_sQ, gA_sL, gA_sD, gQ_sI, gQ_sR, gQ_sA, gQ_sL, gQ_sD, gL_sI, gL_sR, gL_sA, gL_sQ, gL_sD, kd_nO, kd_nA, *]) (by first | assumption | exact gI_sIs | exact gR_sRs | with_reducible rfl | (simp only [kd_sI, kd_sR, kd_sA, kd_sQ, kd_sL, kd_sD, ln_sI, ln_sR, ln_sA, ln_sQ, ln_sL, ln_sD, gI_sR, gI_sA, gI_sQ, gI_sL, gI_sD, gR_sI, gR_sA, gR_sQ, gR_sL, gR_sD, gA_sI, gA_sR, gA_sQ, gA_sL, gA_sD, gQ_sI, gQ_sR, gQ_sA, gQ_sL, gQ_sD, gL_sI, gL_sR, gL_sA, gL_sQ, gL_sD]; first | done | assumption | with_reducible rfl) | rfl) ?_
  refine r_callI (As := [_, _, _]) (mc' := 1) (ms' := 3) dX5_copy_16 k_X5_34 rfl (by first | assumption | omega) (by first | assumption | omega) (by first | assumption | omega) (Nat.le_of_ble_eq_true rfl) ?_
  refine c_cableInit (st := st) (by omega) kq z1 (fun H2 r2 hK2 hr2 hC2 => ?_)
  have hK12 : Ks (fun _ => False) H H2 := hK1.tr2 hK2 (fun a ha e => ne0 a ha e)
  have hr0 : kd H r2 = 0 := hK1.fr hr2
  have hCo := h0.ks hK12 (fun h => h) (fun h => h) (fun _ h => h) (fun _ _ h => h)
  obtain ⟨⟨d1, d2, d3, d4, d5, d6, d7, d8⟩, -, -, d11, -⟩ := hCo
  obtain ⟨⟨e1, e2, e3, e4, e5, e6, e7, e8⟩, -, -, e11, -⟩ := hC2
  have kr := e11.1
  have nqr : r2 ≠ q0 := ne_of_kd kr e1 (by decide)
  show AW mX5_copy G d Qr Qx _ _ H2 19 _ _
  refine r_astore_n (i := 1) dX5_copy_19 rfl (Nat.le_of_ble_eq_true rfl) (by simp only [lset]; rfl) ?_
  refine r_aload_n (i := 1) dX5_copy_20 rfl rfl ?_
  refine r_aload_n (i := 0) dX5_copy_21 rfl rfl ?_
  refine r_getI dX5_copy_22 fR_X5_9 (by first | assumption | (simp only [kd_sI, kd_sR, kd_sA, kd_sQ, kd_sL, kd_sD, ln_sI, ln_sR, ln_sA, ln_sQ, ln_sL, ln_sD, gI_sR, gI_sA, gI_sQ, gI_sL, gI_sD, gR_sI, gR_sA, gR_sQ, gR_sL, gR_sD, gA_sI, gA_sR, gA_sQ, gA_sL, gA_sD, gQ_sI, gQ_sR, gQ_sA, gQ_sL, gQ_sD, gL_sI, gL_sR, gL_sA, gL_sQ, gL_sD]; assumption) | simp [kd_sI, kd_sR, kd_sA, kd_sQ, kd_sL, kd_sD, ln_sI, ln_sR, ln_sA, ln_sQ, ln_sL, ln_sD, gI_sR, gI_sA, gI_sQ, gI_sL, gI_sD, gR_sI, gR_sA, gR_sQ, gR_sL, gR_sD, gA_sI, gA_sR, gA_sQ, gA_sL, gA_sD, gQ_sI, gQ_sR, gQ_sA, gQ_sL, gQ_sD, gL_sI, gL_sR, gL_sA, gL_sQ, gL_sD, kd_nO, kd_nA, *]) (by first | assumption | exact gI_sIs | exact gR_sRs | with_reducible rfl | (simp only [kd_sI, kd_sR, kd_sA, kd_sQ, kd_sL, kd_sD, ln_sI, ln_sR, ln_sA, ln_sQ, ln_sL, ln_sD, gI_sR, gI_sA, gI_sQ, gI_sL, gI_sD, gR_sI, gR_sA, gR_sQ, gR_sL, gR_sD, gA_sI, gA_sR, gA_sQ, gA_sL, gA_sD, gQ_sI, gQ_sR, gQ_sA, gQ_sL, gQ_sD, gL_sI, gL_sR, gL_sA, gL_sQ, gL_sD]; first | done | assumption | with_reducible rfl) | rfl) ?_
  refine r_putI dX5_copy_25 fG_X5_9 (fun _ => by first | rfl | contradiction) (by first | assumption | (simp only [kd_sI, kd_sR, kd_sA, kd_sQ, kd_sL, kd_sD, ln_sI, ln_sR, ln_sA, ln_sQ, ln_sL, ln_sD, gI_sR, gI_sA, gI_sQ, gI_sL, gI_sD, gR_sI, gR_sA, gR_sQ, gR_sL, gR_sD, gA_sI, gA_sR, gA_sQ, gA_sL, gA_sD, gQ_sI, gQ_sR, gQ_sA, gQ_sL, gQ_sD, gL_sI, gL_sR, gL_sA, gL_sQ, gL_sD]; assumption) | simp [kd_sI, kd_sR, kd_sA, kd_sQ, kd_sL, kd_sD, ln_sI, ln_sR, ln_sA, ln_sQ, ln_sL, ln_sD, gI_sR, gI_sA, gI_sQ, gI_sL, gI_sD, gR_sI, gR_sA, gR_sQ, gR_sL, gR_sD, gA_sI, gA_sR, gA_sQ, gA_sL, gA_sD, gQ_sI, gQ_sR, gQ_sA, gQ_sL, gQ_sD, gL_sI, gL_sR, gL_sA, gL_sQ, gL_sD, kd_nO, kd_nA, *]) (by first | rfl | assumption) (by first | rfl | assumption) ?_
  refine AW.name (fun H3 hH3 => ?_)
  have hK3' : Ks (fun a => a = q0) H2 H3 := by rw [hH3]; exact (Ks.rf (S := fun a => a = q0)).sI (fun _ => rfl)
  have hK3 : Ks (fun _ => False) H H3 := hK12.tr2 hK3' (fun a ha e => ne0 a ha e)
  have hCo3 := h0.ks hK3 (fun h => h) (fun h => h) (fun _ h => h) (fun _ _ h => h)
  obtain ⟨⟨f1, f2, f3, f4, f5, f6, f7, f8⟩, -, -, f11, -⟩ := hCo3
  have g1 : kd H3 q0 = 4 := by rw [hH3]; exact e1
  have g8 : gR H3 27 q0 = some r2 := by rw [hH3]; exact e8
  have gl : LsO G H3 r2 0 st (gSt G 1) := e11.ks hK3' (fun e => nqr e) (fun k e => by rw [e, e1] at k; exact absurd k (by decide))
  have kr3 := gl.1
  have kr4 := f11.1
  refine r_aload_n (i := 1) dX5_copy_28 rfl rfl ?_
  refine r_getR dX5_copy_29 fR_X5_18 (by first | assumption | (simp only [kd_sI, kd_sR, kd_sA, kd_sQ, kd_sL, kd_sD, ln_sI, ln_sR, ln_sA, ln_sQ, ln_sL, ln_sD, gI_sR, gI_sA, gI_sQ, gI_sL, gI_sD, gR_sI, gR_sA, gR_sQ, gR_sL, gR_sD, gA_sI, gA_sR, gA_sQ, gA_sL, gA_sD, gQ_sI, gQ_sR, gQ_sA, gQ_sL, gQ_sD, gL_sI, gL_sR, gL_sA, gL_sQ, gL_sD]; assumption) | simp [kd_sI, kd_sR, kd_sA, kd_sQ, kd_sL, kd_sD, ln_sI, ln_sR, ln_sA, ln_sQ, ln_sL, ln_sD, gI_sR, gI_sA, gI_sQ, gI_sL, gI_sD, gR_sI, gR_sA, gR_sQ, gR_sL, gR_sD, gA_sI, gA_sR, gA_sQ, gA_sL, gA_sD, gQ_sI, gQ_sR, gQ_sA, gQ_sL, gQ_sD, gL_sI, gL_sR, gL_sA, gL_sQ, gL_sD, kd_nO, kd_nA, *]) (by first | assumption | exact gI_sIs | exact gR_sRs | with_reducible rfl | (simp only [kd_sI, kd_sR, kd_sA, kd_sQ, kd_sL, kd_sD, ln_sI, ln_sR, ln_sA, ln_sQ, ln_sL, ln_sD, gI_sR, gI_sA, gI_sQ, gI_sL, gI_sD, gR_sI, gR_sA, gR_sQ, gR_sL, gR_sD, gA_sI, gA_sR, gA_sQ, gA_sL, gA_sD, gQ_sI, gQ_sR, gQ_sA, gQ_sL, gQ_sD, gL_sI, gL_sR, gL_sA, gL_sQ, gL_sD]; first | done | assumption | with_reducible rfl) | rfl) ?_
  refine r_aload_n (i := 0) dX5_copy_32 rfl rfl ?_
  refine r_getR dX5_copy_33 fR_X5_18 (by first | assumption | (simp only [kd_sI, kd_sR, kd_sA, kd_sQ, kd_sL, kd_sD, ln_sI, ln_sR, ln_sA, ln_sQ, ln_sL, ln_sD, gI_sR, gI_sA, gI_sQ, gI_sL, gI_sD, gR_sI, gR_sA, gR_sQ, gR_sL, gR_sD, gA_sI, gA_sR, gA_sQ, gA_sL, gA_sD, gQ_sI, gQ_sR, gQ_sA, gQ_sL, gQ_sD, gL_sI, gL_sR, gL_sA, gL_sQ, gL_sD]; assumption) | simp [kd_sI, kd_sR, kd_sA, kd_sQ, kd_sL, kd_sD, ln_sI, ln_sR, ln_sA, ln_sQ, ln_sL, ln_sD, gI_sR, gI_sA, gI_sQ, gI_sL, gI_sD, gR_sI, gR_sA, gR_sQ, gR_sL, gR_sD, gA_sI, gA_sR, gA_sQ, gA_sL, gA_sD, gQ_sI, gQ_sR, gQ_sA, gQ_sL, gQ_sD, gL_sI, gL_sR, gL_sA, gL_sQ, gL_sD, kd_nO, kd_nA, *]) (by first | assumption | exact gI_sIs | exact gR_sRs | with_reducible rfl | (simp only [kd_sI, kd_sR, kd_sA, kd_sQ, kd_sL, kd_sD, ln_sI, ln_sR, ln_sA, ln_sQ, ln_sL, ln_sD, gI_sR, gI_sA, gI_sQ, gI_sL, gI_sD, gR_sI, gR_sA, gR_sQ, gR_sL, gR_sD, gA_sI, gA_sR, gA_sQ, gA_sL, gA_sD, gQ_sI, gQ_sR, gQ_sA, gQ_sL, gQ_sD, gL_sI, gL_sR, gL_sA, gL_sQ, gL_sD]; first | done | assumption | with_reducible rfl) | rfl) ?_
  refine r_callV (As := [_]) (mc' := 2) (ms' := (n + 10)) dX5_copy_36 k_X5_37 rfl (by first | assumption | (simp only [kd_sI, kd_sR, kd_sA, kd_sQ, kd_sL, kd_sD, ln_sI, ln_sR, ln_sA, ln_sQ, ln_sL, ln_sD, gI_sR, gI_sA, gI_sQ, gI_sL, gI_sD, gR_sI, gR_sA, gR_sQ, gR_sL, gR_sD, gA_sI, gA_sR, gA_sQ, gA_sL, gA_sD, gQ_sI, gQ_sR, gQ_sA, gQ_sL, gQ_sD, gL_sI, gL_sR, gL_sA, gL_sQ, gL_sD]; assumption) | simp [kd_sI, kd_sR, kd_sA, kd_sQ, kd_sL, kd_sD, ln_sI, ln_sR, ln_sA, ln_sQ, ln_sL, ln_sD, gI_sR, gI_sA, gI_sQ, gI_sL, gI_sD, gR_sI, gR_sA, gR_sQ, gR_sL, gR_sD, gA_sI, gA_sR, gA_sQ, gA_sL, gA_sD, gQ_sI, gQ_sR, gQ_sA, gQ_sL, gQ_sD, gL_sI, gL_sR, gL_sA, gL_sQ, gL_sD, kd_nO, kd_nA, *]) (T := TJ2) (N := 3) rfl (by first | assumption | omega) (by first | assumption | omega) (by first | assumption | omega) (Nat.le_of_ble_eq_true rfl) ?_
  refine s_addAll (by omega) gl f11 (by omega) (fun H4 e4' b hK4 he4 hL4 => ?_)
  have nqr' : ¬ q0 = r2 := fun e => nqr e.symm
  have hK5 : Ks (fun _ => False) H H4 := hK3.tr2 hK4 (fun a ha e => by rw [e] at ha; exact ha hr0)
  have hCo4 := h0.ks hK5 (fun h => h) (fun h => h) (fun _ h => h) (fun _ _ h => h)
  obtain ⟨⟨m1, m2, m3, m4, m5, m6, m7, m8⟩, -, -, m11, m12⟩ := hCo4
  have x0 := hK4.at (a := q0) (by rw [g1]; decide) nqr'
  have w1 : kd H4 q0 = 4 := by rw [at_kd x0]; exact g1
  show AW mX5_copy G d Qr Qx _ _ H4 39 _ _
  refine r_istore_n (i := 2) dX5_copy_39 rfl (Nat.le_of_ble_eq_true rfl) (by simp only [lset]; rfl) ?_
  refine r_aload_n (i := 1) dX5_copy_40 rfl rfl ?_
  refine r_aload_n (i := 0) dX5_copy_41 rfl rfl ?_
  refine r_getI dX5_copy_42 fR_X5_41 (by first | assumption | (simp only [kd_sI, kd_sR, kd_sA, kd_sQ, kd_sL, kd_sD, ln_sI, ln_sR, ln_sA, ln_sQ, ln_sL, ln_sD, gI_sR, gI_sA, gI_sQ, gI_sL, gI_sD, gR_sI, gR_sA, gR_sQ, gR_sL, gR_sD, gA_sI, gA_sR, gA_sQ, gA_sL, gA_sD, gQ_sI, gQ_sR, gQ_sA, gQ_sL, gQ_sD, gL_sI, gL_sR, gL_sA, gL_sQ, gL_sD]; assumption) | simp [kd_sI, kd_sR, kd_sA, kd_sQ, kd_sL, kd_sD, ln_sI, ln_sR, ln_sA, ln_sQ, ln_sL, ln_sD, gI_sR, gI_sA, gI_sQ, gI_sL, gI_sD, gR_sI, gR_sA, gR_sQ, gR_sL, gR_sD, gA_sI, gA_sR, gA_sQ, gA_sL, gA_sD, gQ_sI, gQ_sR, gQ_sA, gQ_sL, gQ_sD, gL_sI, gL_sR, gL_sA, gL_sQ, gL_sD, kd_nO, kd_nA, *]) (by first | assumption | exact gI_sIs | exact gR_sRs | with_reducible rfl | (simp only [kd_sI, kd_sR, kd_sA, kd_sQ, kd_sL, kd_sD, ln_sI, ln_sR, ln_sA, ln_sQ, ln_sL, ln_sD, gI_sR, gI_sA, gI_sQ, gI_sL, gI_sD, gR_sI, gR_sA, gR_sQ, gR_sL, gR_sD, gA_sI, gA_sR, gA_sQ, gA_sL, gA_sD, gQ_sI, gQ_sR, gQ_sA, gQ_sL, gQ_sD, gL_sI, gL_sR, gL_sA, gL_sQ, gL_sD]; first | done | assumption | with_reducible rfl) | rfl) ?_
  refine r_putI dX5_copy_45 fG_X5_41 (fun _ => by first | rfl | contradiction) (by first | assumption | (simp only [kd_sI, kd_sR, kd_sA, kd_sQ, kd_sL, kd_sD, ln_sI, ln_sR, ln_sA, ln_sQ, ln_sL, ln_sD, gI_sR, gI_sA, gI_sQ, gI_sL, gI_sD, gR_sI, gR_sA, gR_sQ, gR_sL, gR_sD, gA_sI, gA_sR, gA_sQ, gA_sL, gA_sD, gQ_sI, gQ_sR, gQ_sA, gQ_sL, gQ_sD, gL_sI, gL_sR, gL_sA, gL_sQ, gL_sD]; assumption) | simp [kd_sI, kd_sR, kd_sA, kd_sQ, kd_sL, kd_sD, ln_sI, ln_sR, ln_sA, ln_sQ, ln_sL, ln_sD, gI_sR, gI_sA, gI_sQ, gI_sL, gI_sD, gR_sI, gR_sA, gR_sQ, gR_sL, gR_sD, gA_sI, gA_sR, gA_sQ, gA_sL, gA_sD, gQ_sI, gQ_sR, gQ_sA, gQ_sL, gQ_sD, gL_sI, gL_sR, gL_sA, gL_sQ, gL_sD, kd_nO, kd_nA, *]) (by first | rfl | assumption) (by first | rfl | assumption) ?_
  refine r_aload_n (i := 1) dX5_copy_48 rfl rfl ?_
  refine r_aload_n (i := 0) dX5_copy_49 rfl rfl ?_
  refine r_getI dX5_copy_50 fR_X5_22 (by first | assumption | (simp only [kd_sI, kd_sR, kd_sA, kd_sQ, kd_sL, kd_sD, ln_sI, ln_sR, ln_sA, ln_sQ, ln_sL, ln_sD, gI_sR, gI_sA, gI_sQ, gI_sL, gI_sD, gR_sI, gR_sA, gR_sQ, gR_sL, gR_sD, gA_sI, gA_sR, gA_sQ, gA_sL, gA_sD, gQ_sI, gQ_sR, gQ_sA, gQ_sL, gQ_sD, gL_sI, gL_sR, gL_sA, gL_sQ, gL_sD]; assumption) | simp [kd_sI, kd_sR, kd_sA, kd_sQ, kd_sL, kd_sD, ln_sI, ln_sR, ln_sA, ln_sQ, ln_sL, ln_sD, gI_sR, gI_sA, gI_sQ, gI_sL, gI_sD, gR_sI, gR_sA, gR_sQ, gR_sL, gR_sD, gA_sI, gA_sR, gA_sQ, gA_sL, gA_sD, gQ_sI, gQ_sR, gQ_sA, gQ_sL, gQ_sD, gL_sI, gL_sR, gL_sA, gL_sQ, gL_sD, kd_nO, kd_nA, *]) (by first | assumption | exact gI_sIs | exact gR_sRs | with_reducible rfl | (simp only [kd_sI, kd_sR, kd_sA, kd_sQ, kd_sL, kd_sD, ln_sI, ln_sR, ln_sA, ln_sQ, ln_sL, ln_sD, gI_sR, gI_sA, gI_sQ, gI_sL, gI_sD, gR_sI, gR_sA, gR_sQ, gR_sL, gR_sD, gA_sI, gA_sR, gA_sQ, gA_sL, gA_sD, gQ_sI, gQ_sR, gQ_sA, gQ_sL, gQ_sD, gL_sI, gL_sR, gL_sA, gL_sQ, gL_sD]; first | done | assumption | with_reducible rfl) | rfl) ?_
  refine r_putI dX5_copy_53 fG_X5_22 (fun _ => by first | rfl | contradiction) (by first | assumption | (simp only [kd_sI, kd_sR, kd_sA, kd_sQ, kd_sL, kd_sD, ln_sI, ln_sR, ln_sA, ln_sQ, ln_sL, ln_sD, gI_sR, gI_sA, gI_sQ, gI_sL, gI_sD, gR_sI, gR_sA, gR_sQ, gR_sL, gR_sD, gA_sI, gA_sR, gA_sQ, gA_sL, gA_sD, gQ_sI, gQ_sR, gQ_sA, gQ_sL, gQ_sD, gL_sI, gL_sR, gL_sA, gL_sQ, gL_sD]; assumption) | simp [kd_sI, kd_sR, kd_sA, kd_sQ, kd_sL, kd_sD, ln_sI, ln_sR, ln_sA, ln_sQ, ln_sL, ln_sD, gI_sR, gI_sA, gI_sQ, gI_sL, gI_sD, gR_sI, gR_sA, gR_sQ, gR_sL, gR_sD, gA_sI, gA_sR, gA_sQ, gA_sL, gA_sD, gQ_sI, gQ_sR, gQ_sA, gQ_sL, gQ_sD, gL_sI, gL_sR, gL_sA, gL_sQ, gL_sD, kd_nO, kd_nA, *]) (by first | rfl | assumption) (by first | rfl | assumption) ?_
  refine r_aload_n (i := 1) dX5_copy_56 rfl rfl ?_
  refine r_areturn dX5_copy_57 rfl (by first | exact Or.inl ⟨_, rfl⟩ | exact Or.inr ⟨_, rfl⟩) ?_
  have hKe : Ks (fun a => a = q0) H4 (sI (sI H4 28 q0 (v 5)) 29 q0 (v 6)) := ((Ks.rf (S := fun a => a = q0)).sI (fun _ => rfl)).sI (fun _ => rfl)
  have hKf : Ks (fun _ => False) H (sI (sI H4 28 q0 (v 5)) 29 q0 (v 6)) := hK5.tr2 hKe (fun a ha e => ne0 a ha e)
  refine hQ _ q0 r2 e4' hKf hq0 hr0 (he4.imp (fun h => h) (fun h => hK3.fr h)) ⟨⟨w1, ?_, ?_, ?_, ?_, ?_, gI_sIs, ?_⟩, a9, a10, hL4.ks hKe (fun e => nqr e) (fun k e => by rw [e, w1] at k; exact absurd k (by decide)), fun i hi => ?_⟩
  · rw [gI_sIn (by decide), gI_sIn (by decide), at_gI x0, hH3, gI_sIn (by decide)]
    exact e2
  · rw [gI_sIn (by decide), gI_sIn (by decide), at_gI x0, hH3, gI_sIn (by decide)]
    exact e3
  · rw [gI_sIn (by decide), gI_sIn (by decide), at_gI x0, hH3, gI_sIn (by decide)]
    exact e4
  · rw [gI_sIn (by decide), gI_sIn (by decide), at_gI x0, hH3, gI_sIs]
  · rw [gI_sIn (by decide), gI_sIs]
  · show gR H4 27 q0 = _
    rw [at_gR x0]
    exact g8
  · have hCf := h0.ks hKf (fun h => h) (fun h => h) (fun _ h => h) (fun _ _ h => h)
    exact hCf.2.2.2.2 i hi
/-- trays behind a dropped one -/
def rnu (t x : Int32) : Int32 := if t < x then x - nI 1 else x
def rnV (v : Nat → Int32) (t : Int32) (k : Nat) : Int32 := if 7 ≤ k ∧ k < 14 then rnu t (v k) else v k
theorem c_renumber {t : Int32} (hd : 3 ≤ d) (h : CaO G H c rl re st n v) (hc : ¬ c = re) (hQ : ∀ H' st', Ks (SL rl re) H H' → CaO G H' c rl re st' n (rnV v t) → (∀ j, j < n → st' j = st j ∨ kd H (st' j) = 0) → Qr none H') : AMet G d 7 14 yX5_renumber wX5_renumber H [vR (some c), vI t] Qr Qx := by
  have h0 := h
  obtain ⟨⟨a1, a2, a3, a4, a5, a6, a7, a8⟩, a9, a10, a11, a12⟩ := h
  have hcl : ¬ c = rl := ne_of_kd a1 a11.1 (by decide)
  refine AMet.of (M := mX5_renumber) (maxL := 5) (by first | rfl | decide +kernel) rfl (Nat.le_of_ble_eq_true rfl) ?_
  show AW mX5_renumber _ _ _ _ _ _ _ 0 [some (vR (some c)), some (vI t), none, none, none] []
  refine r_iconst (v := nI 0) dX5_renumber_0 (by decide) ?_
  refine r_istore_n (i := 2) dX5_renumber_1 rfl (Nat.le_of_ble_eq_true rfl) (by simp only [lset]; rfl) ?_
  have loop : ∀ (k i rc rs : Nat) (H2 : AH) (l3 l4 : Option AV) (s2 : Nat → Nat), i + k = n → k ≤ rc → 2 * k ≤ rs → Ks (SL rl re) H H2 → LsO G H2 rl n s2 re → (∀ j, j < n → kd H2 (s2 j) = 6 ∧ gI H2 33 (s2 j) = (if j < i then rnu t (v (7 + j)) else v (7 + j)) ∧ gI H2 34 (s2 j) = v (14 + j)) → (∀ j, j < n → s2 j = st j ∨ kd H (s2 j) = 0) → AW mX5_renumber G d Qr Qx rc rs H2 2 [some (vR (some c)), some (vI t), some (vI (nI i)), l3, l4] [] := by
    intro k
    induction k with
    | zero =>
      intro i rc rs H2 l3 l4 s2 hi hrc hrs hK hL hs hso
      have e0 := hK.at (a := c) (by rw [a1]; decide) (fun q => q.elim hcl hc)
      have b1 : kd H2 c = 4 := by rw [at_kd e0]; exact a1
      have b8 : gR H2 27 c = some rl := by rw [at_gR e0]; exact a8
      have kr := hL.1
      refine r_iload_n (i := 2) dX5_renumber_2 rfl rfl ?_
      refine r_aload_n (i := 0) dX5_renumber_3 rfl rfl ?_
      refine r_getR dX5_renumber_4 fR_X5_18 (by first | assumption | (simp only [kd_sI, kd_sR, kd_sA, kd_sQ, kd_sL, kd_sD, ln_sI, ln_sR, ln_sA, ln_sQ, ln_sL, ln_sD, gI_sR, gI_sA, gI_sQ, gI_sL, gI_sD, gR_sI, gR_sA, gR_sQ, gR_sL, gR_sD, gA_sI, gA_sR, gA_sQ, gA_sL, gA_sD, gQ_sI, gQ_sR, gQ_sA, gQ_sL, gQ_sD, gL_sI, gL_sR, gL_sA, gL_sQ, gL_sD]; assumption) | simp [kd_sI, kd_sR, kd_sA, kd_sQ, kd_sL, kd_sD, ln_sI, ln_sR, ln_sA, ln_sQ, ln_sL, ln_sD, gI_sR, gI_sA, gI_sQ, gI_sL, gI_sD, gR_sI, gR_sA, gR_sQ, gR_sL, gR_sD, gA_sI, gA_sR, gA_sQ, gA_sL, gA_sD, gQ_sI, gQ_sR, gQ_sA, gQ_sL, gQ_sD, gL_sI, gL_sR, gL_sA, gL_sQ, gL_sD, kd_nO, kd_nA, *]) (by first | assumption | exact gI_sIs | exact gR_sRs | with_reducible rfl | (simp only [kd_sI, kd_sR, kd_sA, kd_sQ, kd_sL, kd_sD, ln_sI, ln_sR, ln_sA, ln_sQ, ln_sL, ln_sD, gI_sR, gI_sA, gI_sQ, gI_sL, gI_sD, gR_sI, gR_sA, gR_sQ, gR_sL, gR_sD, gA_sI, gA_sR, gA_sQ, gA_sL, gA_sD, gQ_sI, gQ_sR, gQ_sA, gQ_sL, gQ_sD, gL_sI, gL_sR, gL_sA, gL_sQ, gL_sD]; first | done | assumption | with_reducible rfl) | rfl) ?_
      refine r_callV (As := []) (mc' := 0) (ms' := 0) dX5_renumber_7 k_X5_66 rfl (by first | assumption | (simp only [kd_sI, kd_sR, kd_sA, kd_sQ, kd_sL, kd_sD, ln_sI, ln_sR, ln_sA, ln_sQ, ln_sL, ln_sD, gI_sR, gI_sA, gI_sQ, gI_sL, gI_sD, gR_sI, gR_sA, gR_sQ, gR_sL, gR_sD, gA_sI, gA_sR, gA_sQ, gA_sL, gA_sD, gQ_sI, gQ_sR, gQ_sA, gQ_sL, gQ_sD, gL_sI, gL_sR, gL_sA, gL_sQ, gL_sD]; assumption) | simp [kd_sI, kd_sR, kd_sA, kd_sQ, kd_sL, kd_sD, ln_sI, ln_sR, ln_sA, ln_sQ, ln_sL, ln_sD, gI_sR, gI_sA, gI_sQ, gI_sL, gI_sD, gR_sI, gR_sA, gR_sQ, gR_sL, gR_sD, gA_sI, gA_sR, gA_sQ, gA_sL, gA_sD, gQ_sI, gQ_sR, gQ_sA, gQ_sL, gQ_sD, gL_sI, gL_sR, gL_sA, gL_sQ, gL_sD, kd_nO, kd_nA, *]) (T := TJ2) (N := 3) rfl (by first | assumption | omega) (by first | assumption | omega) (by first | assumption | omega) (Nat.le_of_ble_eq_true rfl) ?_
      refine s_size hL.1 hL.2.1 ?_
      refine r_icmp_ge (tgt := 69) dX5_renumber_10 (by decide) (fun h10 => ?_) (fun h10 => ?_)
      · refine r_return dX5_renumber_69 rfl ?_
        refine hQ H2 s2 hK ⟨⟨b1, by rw [at_gI e0]; exact a2, by rw [at_gI e0]; exact a3, by rw [at_gI e0]; exact a4, by rw [at_gI e0]; exact a5, by rw [at_gI e0]; exact a6, by rw [at_gI e0]; exact a7, b8⟩, a9, a10, hL, fun j hj => ?_⟩ hso
        obtain ⟨c1, c2, c3⟩ := hs j hj
        refine ⟨c1, ?_, ?_⟩
        · rw [c2, if_pos (by omega)]
          unfold rnV
          rw [if_pos ⟨by omega, by omega⟩]
        · rw [c3]
          unfold rnV
          rw [if_neg (by omega)]
      · exact absurd (nI_le (by omega) (by omega)) h10
    | succ k ih =>
      intro i rc rs H2 l3 l4 s2 hi hrc hrs hK hL hs hso
      have e0 := hK.at (a := c) (by rw [a1]; decide) (fun q => q.elim hcl hc)
      have b1 : kd H2 c = 4 := by rw [at_kd e0]; exact a1
      have b8 : gR H2 27 c = some rl := by rw [at_gR e0]; exact a8
      have kr := hL.1
      obtain ⟨c1, c2, c3⟩ := hs i (by omega)
      rw [if_neg (Nat.lt_irrefl i)] at c2
      refine r_iload_n (i := 2) dX5_renumber_2 rfl rfl ?_
      refine r_aload_n (i := 0) dX5_renumber_3 rfl rfl ?_
      refine r_getR dX5_renumber_4 fR_X5_18 (by first | assumption | (simp only [kd_sI, kd_sR, kd_sA, kd_sQ, kd_sL, kd_sD, ln_sI, ln_sR, ln_sA, ln_sQ, ln_sL, ln_sD, gI_sR, gI_sA, gI_sQ, gI_sL, gI_sD, gR_sI, gR_sA, gR_sQ, gR_sL, gR_sD, gA_sI, gA_sR, gA_sQ, gA_sL, gA_sD, gQ_sI, gQ_sR, gQ_sA, gQ_sL, gQ_sD, gL_sI, gL_sR, gL_sA, gL_sQ, gL_sD]; assumption) | simp [kd_sI, kd_sR, kd_sA, kd_sQ, kd_sL, kd_sD, ln_sI, ln_sR, ln_sA, ln_sQ, ln_sL, ln_sD, gI_sR, gI_sA, gI_sQ, gI_sL, gI_sD, gR_sI, gR_sA, gR_sQ, gR_sL, gR_sD, gA_sI, gA_sR, gA_sQ, gA_sL, gA_sD, gQ_sI, gQ_sR, gQ_sA, gQ_sL, gQ_sD, gL_sI, gL_sR, gL_sA, gL_sQ, gL_sD, kd_nO, kd_nA, *]) (by first | assumption | exact gI_sIs | exact gR_sRs | with_reducible rfl | (simp only [kd_sI, kd_sR, kd_sA, kd_sQ, kd_sL, kd_sD, ln_sI, ln_sR, ln_sA, ln_sQ, ln_sL, ln_sD, gI_sR, gI_sA, gI_sQ, gI_sL, gI_sD, gR_sI, gR_sA, gR_sQ, gR_sL, gR_sD, gA_sI, gA_sR, gA_sQ, gA_sL, gA_sD, gQ_sI, gQ_sR, gQ_sA, gQ_sL, gQ_sD, gL_sI, gL_sR, gL_sA, gL_sQ, gL_sD]; first | done | assumption | with_reducible rfl) | rfl) ?_
      refine r_callV (As := []) (mc' := 0) (ms' := 0) dX5_renumber_7 k_X5_66 rfl (by first | assumption | (simp only [kd_sI, kd_sR, kd_sA, kd_sQ, kd_sL, kd_sD, ln_sI, ln_sR, ln_sA, ln_sQ, ln_sL, ln_sD, gI_sR, gI_sA, gI_sQ, gI_sL, gI_sD, gR_sI, gR_sA, gR_sQ, gR_sL, gR_sD, gA_sI, gA_sR, gA_sQ, gA_sL, gA_sD, gQ_sI, gQ_sR, gQ_sA, gQ_sL, gQ_sD, gL_sI, gL_sR, gL_sA, gL_sQ, gL_sD]; assumption) | simp [kd_sI, kd_sR, kd_sA, kd_sQ, kd_sL, kd_sD, ln_sI, ln_sR, ln_sA, ln_sQ, ln_sL, ln_sD, gI_sR, gI_sA, gI_sQ, gI_sL, gI_sD, gR_sI, gR_sA, gR_sQ, gR_sL, gR_sD, gA_sI, gA_sR, gA_sQ, gA_sL, gA_sD, gQ_sI, gQ_sR, gQ_sA, gQ_sL, gQ_sD, gL_sI, gL_sR, gL_sA, gL_sQ, gL_sD, kd_nO, kd_nA, *]) (T := TJ2) (N := 3) rfl (by first | assumption | omega) (by first | assumption | omega) (by first | assumption | omega) (Nat.le_of_ble_eq_true rfl) ?_
      refine s_size hL.1 hL.2.1 ?_
      refine r_icmp_ge (tgt := 69) dX5_renumber_10 (by decide) (fun h10 => ?_) (fun h10 => ?_)
      · exact absurd h10 (nI_ge (by omega) (by omega))
      · refine r_aload_n (i := 0) dX5_renumber_13 rfl rfl ?_
        refine r_getR dX5_renumber_14 fR_X5_18 (by first | assumption | (simp only [kd_sI, kd_sR, kd_sA, kd_sQ, kd_sL, kd_sD, ln_sI, ln_sR, ln_sA, ln_sQ, ln_sL, ln_sD, gI_sR, gI_sA, gI_sQ, gI_sL, gI_sD, gR_sI, gR_sA, gR_sQ, gR_sL, gR_sD, gA_sI, gA_sR, gA_sQ, gA_sL, gA_sD, gQ_sI, gQ_sR, gQ_sA, gQ_sL, gQ_sD, gL_sI, gL_sR, gL_sA, gL_sQ, gL_sD]; assumption) | simp [kd_sI, kd_sR, kd_sA, kd_sQ, kd_sL, kd_sD, ln_sI, ln_sR, ln_sA, ln_sQ, ln_sL, ln_sD, gI_sR, gI_sA, gI_sQ, gI_sL, gI_sD, gR_sI, gR_sA, gR_sQ, gR_sL, gR_sD, gA_sI, gA_sR, gA_sQ, gA_sL, gA_sD, gQ_sI, gQ_sR, gQ_sA, gQ_sL, gQ_sD, gL_sI, gL_sR, gL_sA, gL_sQ, gL_sD, kd_nO, kd_nA, *]) (by first | assumption | exact gI_sIs | exact gR_sRs | with_reducible rfl | (simp only [kd_sI, kd_sR, kd_sA, kd_sQ, kd_sL, kd_sD, ln_sI, ln_sR, ln_sA, ln_sQ, ln_sL, ln_sD, gI_sR, gI_sA, gI_sQ, gI_sL, gI_sD, gR_sI, gR_sA, gR_sQ, gR_sL, gR_sD, gA_sI, gA_sR, gA_sQ, gA_sL, gA_sD, gQ_sI, gQ_sR, gQ_sA, gQ_sL, gQ_sD, gL_sI, gL_sR, gL_sA, gL_sQ, gL_sD]; first | done | assumption | with_reducible rfl) | rfl) ?_
        refine r_iload_n (i := 2) dX5_renumber_17 rfl rfl ?_
        refine r_callV (As := [_]) (mc' := 0) (ms' := 0) dX5_renumber_18 k_X5_70 rfl (by first | assumption | (simp only [kd_sI, kd_sR, kd_sA, kd_sQ, kd_sL, kd_sD, ln_sI, ln_sR, ln_sA, ln_sQ, ln_sL, ln_sD, gI_sR, gI_sA, gI_sQ, gI_sL, gI_sD, gR_sI, gR_sA, gR_sQ, gR_sL, gR_sD, gA_sI, gA_sR, gA_sQ, gA_sL, gA_sD, gQ_sI, gQ_sR, gQ_sA, gQ_sL, gQ_sD, gL_sI, gL_sR, gL_sA, gL_sQ, gL_sD]; assumption) | simp [kd_sI, kd_sR, kd_sA, kd_sQ, kd_sL, kd_sD, ln_sI, ln_sR, ln_sA, ln_sQ, ln_sL, ln_sD, gI_sR, gI_sA, gI_sQ, gI_sL, gI_sD, gR_sI, gR_sA, gR_sQ, gR_sL, gR_sD, gA_sI, gA_sR, gA_sQ, gA_sL, gA_sD, gQ_sI, gQ_sR, gQ_sA, gQ_sL, gQ_sD, gL_sI, gL_sR, gL_sA, gL_sQ, gL_sD, kd_nO, kd_nA, *]) (T := TJ2) (N := 3) rfl (by first | assumption | omega) (by first | assumption | omega) (by first | assumption | omega) (Nat.le_of_ble_eq_true rfl) ?_
        refine s_get (by omega) hL (by omega) (by omega) ?_
        refine r_cast dX5_renumber_21 (by first | assumption | (simp only [kd_sI, kd_sR, kd_sA, kd_sQ, kd_sL, kd_sD, ln_sI, ln_sR, ln_sA, ln_sQ, ln_sL, ln_sD, gI_sR, gI_sA, gI_sQ, gI_sL, gI_sD, gR_sI, gR_sA, gR_sQ, gR_sL, gR_sD, gA_sI, gA_sR, gA_sQ, gA_sL, gA_sD, gQ_sI, gQ_sR, gQ_sA, gQ_sL, gQ_sD, gL_sI, gL_sR, gL_sA, gL_sQ, gL_sD]; assumption) | simp [kd_sI, kd_sR, kd_sA, kd_sQ, kd_sL, kd_sD, ln_sI, ln_sR, ln_sA, ln_sQ, ln_sL, ln_sD, gI_sR, gI_sA, gI_sQ, gI_sL, gI_sD, gR_sI, gR_sA, gR_sQ, gR_sL, gR_sD, gA_sI, gA_sR, gA_sQ, gA_sL, gA_sD, gQ_sI, gQ_sR, gQ_sA, gQ_sL, gQ_sD, gL_sI, gL_sR, gL_sA, gL_sQ, gL_sD, kd_nO, kd_nA, *]) (T := TX7) (N := 2) rfl q1253 (Or.inl rfl) ?_
        refine r_astore_n (i := 3) dX5_renumber_24 rfl (Nat.le_of_ble_eq_true rfl) (by simp only [lset]; rfl) ?_
        refine r_aload_n (i := 3) dX5_renumber_25 rfl rfl ?_
        refine r_getI dX5_renumber_26 fR_X5_60 (by first | assumption | (simp only [kd_sI, kd_sR, kd_sA, kd_sQ, kd_sL, kd_sD, ln_sI, ln_sR, ln_sA, ln_sQ, ln_sL, ln_sD, gI_sR, gI_sA, gI_sQ, gI_sL, gI_sD, gR_sI, gR_sA, gR_sQ, gR_sL, gR_sD, gA_sI, gA_sR, gA_sQ, gA_sL, gA_sD, gQ_sI, gQ_sR, gQ_sA, gQ_sL, gQ_sD, gL_sI, gL_sR, gL_sA, gL_sQ, gL_sD]; assumption) | simp [kd_sI, kd_sR, kd_sA, kd_sQ, kd_sL, kd_sD, ln_sI, ln_sR, ln_sA, ln_sQ, ln_sL, ln_sD, gI_sR, gI_sA, gI_sQ, gI_sL, gI_sD, gR_sI, gR_sA, gR_sQ, gR_sL, gR_sD, gA_sI, gA_sR, gA_sQ, gA_sL, gA_sD, gQ_sI, gQ_sR, gQ_sA, gQ_sL, gQ_sD, gL_sI, gL_sR, gL_sA, gL_sQ, gL_sD, kd_nO, kd_nA, *]) (by first | assumption | exact gI_sIs | exact gR_sRs | with_reducible rfl | (simp only [kd_sI, kd_sR, kd_sA, kd_sQ, kd_sL, kd_sD, ln_sI, ln_sR, ln_sA, ln_sQ, ln_sL, ln_sD, gI_sR, gI_sA, gI_sQ, gI_sL, gI_sD, gR_sI, gR_sA, gR_sQ, gR_sL, gR_sD, gA_sI, gA_sR, gA_sQ, gA_sL, gA_sD, gQ_sI, gQ_sR, gQ_sA, gQ_sL, gQ_sD, gL_sI, gL_sR, gL_sA, gL_sQ, gL_sD]; first | done | assumption | with_reducible rfl) | rfl) ?_
        refine r_iload_n (i := 1) dX5_renumber_29 rfl rfl ?_
        refine r_icmp_le (tgt := 63) dX5_renumber_30 (by decide) (fun h30 => ?_) (fun h30 => ?_)
        · refine r_iinc dX5_renumber_63 rfl (by first | exact nI_1 _ | rfl) (by simp only [lset]; rfl) ?_
          refine r_goto (tgt := 2) dX5_renumber_66 (by decide) ?_
          refine ih (i + 1) _ _ H2 _ _ s2 (by omega) (by omega) (by omega) hK hL (fun j hj => ?_) hso
          obtain ⟨g1, g2, g3⟩ := hs j hj
          refine ⟨g1, ?_, g3⟩
          rw [g2]
          by_cases hji : j = i
          · rw [if_neg (by omega), if_pos (by omega), hji]
            unfold rnu
            rw [if_neg (by rw [Int32.not_lt]; exact h30)]
          · by_cases hj2 : j < i
            · rw [if_pos hj2, if_pos (by omega)]
            · rw [if_neg hj2, if_neg (by omega)]
        · have hlt : t < v (7 + i) := by rw [← Int32.not_le]; exact h30
          refine r_aload_n (i := 0) dX5_renumber_33 rfl rfl ?_
          refine r_getR dX5_renumber_34 fR_X5_18 (by first | assumption | (simp only [kd_sI, kd_sR, kd_sA, kd_sQ, kd_sL, kd_sD, ln_sI, ln_sR, ln_sA, ln_sQ, ln_sL, ln_sD, gI_sR, gI_sA, gI_sQ, gI_sL, gI_sD, gR_sI, gR_sA, gR_sQ, gR_sL, gR_sD, gA_sI, gA_sR, gA_sQ, gA_sL, gA_sD, gQ_sI, gQ_sR, gQ_sA, gQ_sL, gQ_sD, gL_sI, gL_sR, gL_sA, gL_sQ, gL_sD]; assumption) | simp [kd_sI, kd_sR, kd_sA, kd_sQ, kd_sL, kd_sD, ln_sI, ln_sR, ln_sA, ln_sQ, ln_sL, ln_sD, gI_sR, gI_sA, gI_sQ, gI_sL, gI_sD, gR_sI, gR_sA, gR_sQ, gR_sL, gR_sD, gA_sI, gA_sR, gA_sQ, gA_sL, gA_sD, gQ_sI, gQ_sR, gQ_sA, gQ_sL, gQ_sD, gL_sI, gL_sR, gL_sA, gL_sQ, gL_sD, kd_nO, kd_nA, *]) (by first | assumption | exact gI_sIs | exact gR_sRs | with_reducible rfl | (simp only [kd_sI, kd_sR, kd_sA, kd_sQ, kd_sL, kd_sD, ln_sI, ln_sR, ln_sA, ln_sQ, ln_sL, ln_sD, gI_sR, gI_sA, gI_sQ, gI_sL, gI_sD, gR_sI, gR_sA, gR_sQ, gR_sL, gR_sD, gA_sI, gA_sR, gA_sQ, gA_sL, gA_sD, gQ_sI, gQ_sR, gQ_sA, gQ_sL, gQ_sD, gL_sI, gL_sR, gL_sA, gL_sQ, gL_sD]; first | done | assumption | with_reducible rfl) | rfl) ?_
          refine r_iload_n (i := 2) dX5_renumber_37 rfl rfl ?_
          refine r_new dX5_renumber_38 cT_X7 q1253 q1771 q124 (by decide +kernel) (by first | assumption | omega) (by first | assumption | omega) (fun q38 hq38 => ?_)
          have hq : kd H2 q38 = 0 := hq38
          refine AW.name (fun H3 hH3 => ?_)
          have hK3 : Ks (fun _ => False) H2 H3 := by rw [hH3]; exact Ks.rf.nO hq
          have ne0 : ∀ a, kd H2 a ≠ 0 → ¬ a = q38 := fun a ha e => by rw [e, hq] at ha; exact ha rfl
          have kq : kd H3 q38 = 6 := by rw [hH3, kd_nO, if_pos rfl]
          have x0 := hK3.at (a := s2 i) (by rw [c1]; decide) (fun h => h)
          have d1 : kd H3 (s2 i) = 6 := by rw [at_kd x0]; exact c1
          have d2 : gI H3 33 (s2 i) = v (7 + i) := by rw [at_gI x0]; exact c2
          have d3 : gI H3 34 (s2 i) = v (14 + i) := by rw [at_gI x0]; exact c3
          refine r_dup dX5_renumber_41 rfl ?_
          refine r_aload_n (i := 3) dX5_renumber_42 rfl rfl ?_
          refine r_getI dX5_renumber_43 fR_X5_60 (by first | assumption | (simp only [kd_sI, kd_sR, kd_sA, kd_sQ, kd_sL, kd_sD, ln_sI, ln_sR, ln_sA, ln_sQ, ln_sL, ln_sD, gI_sR, gI_sA, gI_sQ, gI_sL, gI_sD, gR_sI, gR_sA, gR_sQ, gR_sL, gR_sD, gA_sI, gA_sR, gA_sQ, gA_sL, gA_sD, gQ_sI, gQ_sR, gQ_sA, gQ_sL, gQ_sD, gL_sI, gL_sR, gL_sA, gL_sQ, gL_sD]; assumption) | simp [kd_sI, kd_sR, kd_sA, kd_sQ, kd_sL, kd_sD, ln_sI, ln_sR, ln_sA, ln_sQ, ln_sL, ln_sD, gI_sR, gI_sA, gI_sQ, gI_sL, gI_sD, gR_sI, gR_sA, gR_sQ, gR_sL, gR_sD, gA_sI, gA_sR, gA_sQ, gA_sL, gA_sD, gQ_sI, gQ_sR, gQ_sA, gQ_sL, gQ_sD, gL_sI, gL_sR, gL_sA, gL_sQ, gL_sD, kd_nO, kd_nA, *]) (by first | assumption | exact gI_sIs | exact gR_sRs | with_reducible rfl | (simp only [kd_sI, kd_sR, kd_sA, kd_sQ, kd_sL, kd_sD, ln_sI, ln_sR, ln_sA, ln_sQ, ln_sL, ln_sD, gI_sR, gI_sA, gI_sQ, gI_sL, gI_sD, gR_sI, gR_sA, gR_sQ, gR_sL, gR_sD, gA_sI, gA_sR, gA_sQ, gA_sL, gA_sD, gQ_sI, gQ_sR, gQ_sA, gQ_sL, gQ_sD, gL_sI, gL_sR, gL_sA, gL_sQ, gL_sD]; first | done | assumption | with_reducible rfl) | rfl) ?_
          refine r_iconst (v := nI 1) dX5_renumber_46 (by decide) ?_
          refine r_isub dX5_renumber_47 ?_
          refine r_aload_n (i := 3) dX5_renumber_48 rfl rfl ?_
          refine r_getI dX5_renumber_49 fR_X5_63 (by first | assumption | (simp only [kd_sI, kd_sR, kd_sA, kd_sQ, kd_sL, kd_sD, ln_sI, ln_sR, ln_sA, ln_sQ, ln_sL, ln_sD, gI_sR, gI_sA, gI_sQ, gI_sL, gI_sD, gR_sI, gR_sA, gR_sQ, gR_sL, gR_sD, gA_sI, gA_sR, gA_sQ, gA_sL, gA_sD, gQ_sI, gQ_sR, gQ_sA, gQ_sL, gQ_sD, gL_sI, gL_sR, gL_sA, gL_sQ, gL_sD]; assumption) | simp [kd_sI, kd_sR, kd_sA, kd_sQ, kd_sL, kd_sD, ln_sI, ln_sR, ln_sA, ln_sQ, ln_sL, ln_sD, gI_sR, gI_sA, gI_sQ, gI_sL, gI_sD, gR_sI, gR_sA, gR_sQ, gR_sL, gR_sD, gA_sI, gA_sR, gA_sQ, gA_sL, gA_sD, gQ_sI, gQ_sR, gQ_sA, gQ_sL, gQ_sD, gL_sI, gL_sR, gL_sA, gL_sQ, gL_sD, kd_nO, kd_nA, *]) (by first | assumption | exact gI_sIs | exact gR_sRs | with_reducible rfl | (simp only [kd_sI, kd_sR, kd_sA, kd_sQ, kd_sL, kd_sD, ln_sI, ln_sR, ln_sA, ln_sQ, ln_sL, ln_sD, gI_sR, gI_sA, gI_sQ, gI_sL, gI_sD, gR_sI, gR_sA, gR_sQ, gR_sL, gR_sD, gA_sI, gA_sR, gA_sQ, gA_sL, gA_sD, gQ_sI, gQ_sR, gQ_sA, gQ_sL, gQ_sD, gL_sI, gL_sR, gL_sA, gL_sQ, gL_sD]; first | done | assumption | with_reducible rfl) | rfl) ?_
          refine r_callI (As := [_, _]) (mc' := 0) (ms' := 0) dX5_renumber_52 k_X5_74 rfl (by first | assumption | omega) (by first | assumption | omega) (by first | assumption | omega) (Nat.le_of_ble_eq_true rfl) ?_
          refine c_stepInit (by omega) kq ?_
          refine AW.name (fun H4 hH4 => ?_)
          have hK4' : Ks (fun a => a = q38) H3 H4 := by rw [hH4]; exact ((Ks.rf (S := fun a => a = q38)).sI (fun _ => rfl)).sI (fun _ => rfl)
          have hK4 : Ks (fun _ => False) H2 H4 := hK3.tr2 hK4' (fun a ha e => ne0 a ha e)
          have hL4 := hL.ks hK4 (fun h => h) (fun _ h => h)
          have kq4 : kd H4 q38 = 6 := by rw [hH4]; exact kq
          have kr4 := hL4.1
          have i33 : gI H4 33 q38 = v (7 + i) - nI 1 := by rw [hH4, gI_sIn (by decide), gI_sIs]
          have i34 : gI H4 34 q38 = v (14 + i) := by rw [hH4, gI_sIs]
          refine r_callV (As := [_, _]) (mc' := 0) (ms' := 0) dX5_renumber_55 k_X5_77 rfl (by first | assumption | (simp only [kd_sI, kd_sR, kd_sA, kd_sQ, kd_sL, kd_sD, ln_sI, ln_sR, ln_sA, ln_sQ, ln_sL, ln_sD, gI_sR, gI_sA, gI_sQ, gI_sL, gI_sD, gR_sI, gR_sA, gR_sQ, gR_sL, gR_sD, gA_sI, gA_sR, gA_sQ, gA_sL, gA_sD, gQ_sI, gQ_sR, gQ_sA, gQ_sL, gQ_sD, gL_sI, gL_sR, gL_sA, gL_sQ, gL_sD]; assumption) | simp [kd_sI, kd_sR, kd_sA, kd_sQ, kd_sL, kd_sD, ln_sI, ln_sR, ln_sA, ln_sQ, ln_sL, ln_sD, gI_sR, gI_sA, gI_sQ, gI_sL, gI_sD, gR_sI, gR_sA, gR_sQ, gR_sL, gR_sD, gA_sI, gA_sR, gA_sQ, gA_sL, gA_sD, gQ_sI, gQ_sR, gQ_sA, gQ_sL, gQ_sD, gL_sI, gL_sR, gL_sA, gL_sQ, gL_sD, kd_nO, kd_nA, *]) (T := TJ2) (N := 3) rfl (by first | assumption | omega) (by first | assumption | omega) (by first | assumption | omega) (Nat.le_of_ble_eq_true rfl) ?_
          refine s_set (by omega) hL4 (by omega) (by omega) (Or.inl ⟨by rw [kq4]; decide, by rw [kq4]; decide⟩) (fun hK5 hL5 => ?_)
          refine AW.name (fun H5 hH5 => ?_)
          rw [← hH5] at hK5 hL5
          have hK6 : Ks (SL rl re) H2 H5 := (hK4.mono (fun _ _ h => h.elim)).tr hK5
          have e5 : ∀ a, kd H4 a = 6 → At H5 a = At H4 a := fun a ha => hK5.at (by rw [ha]; decide) (fun q => q.elim (fun e => by rw [e, hL4.1] at ha; exact absurd ha (by decide)) (fun e => by rw [e, (hL4.arr (i := i) (by omega)).1] at ha; exact absurd ha (by decide)))
          have y0 := e5 (s2 i) (by rw [(hK4.at (a := s2 i) (by rw [c1]; decide) (fun h => h)) |> at_kd]; exact c1)
          have y1 : kd H5 (s2 i) = 6 := by rw [at_kd y0, at_kd (hK4.at (a := s2 i) (by rw [c1]; decide) (fun h => h))]; exact c1
          show AW mX5_renumber G d Qr Qx _ _ H5 58 _ _
          refine r_cast dX5_renumber_58 (by first | assumption | (simp only [kd_sI, kd_sR, kd_sA, kd_sQ, kd_sL, kd_sD, ln_sI, ln_sR, ln_sA, ln_sQ, ln_sL, ln_sD, gI_sR, gI_sA, gI_sQ, gI_sL, gI_sD, gR_sI, gR_sA, gR_sQ, gR_sL, gR_sD, gA_sI, gA_sR, gA_sQ, gA_sL, gA_sD, gQ_sI, gQ_sR, gQ_sA, gQ_sL, gQ_sD, gL_sI, gL_sR, gL_sA, gL_sQ, gL_sD]; assumption) | simp [kd_sI, kd_sR, kd_sA, kd_sQ, kd_sL, kd_sD, ln_sI, ln_sR, ln_sA, ln_sQ, ln_sL, ln_sD, gI_sR, gI_sA, gI_sQ, gI_sL, gI_sD, gR_sI, gR_sA, gR_sQ, gR_sL, gR_sD, gA_sI, gA_sR, gA_sQ, gA_sL, gA_sD, gQ_sI, gQ_sR, gQ_sA, gQ_sL, gQ_sD, gL_sI, gL_sR, gL_sA, gL_sQ, gL_sD, kd_nO, kd_nA, *]) (T := TX7) (N := 2) rfl q1253 (Or.inl rfl) ?_
          refine r_astore dX5_renumber_61 (Nat.le_of_ble_eq_true rfl) (by simp only [lset]; rfl) ?_
          refine r_iinc dX5_renumber_63 rfl (by first | exact nI_1 _ | rfl) (by simp only [lset]; rfl) ?_
          refine r_goto (tgt := 2) dX5_renumber_66 (by decide) ?_
          refine ih (i + 1) _ _ H5 _ _ _ (by omega) (by omega) (by omega) (hK.tr hK6) hL5 (fun j hj => ?_) (fun j hj => by
            by_cases hji : j = i
            · have hu : va_up s2 i q38 j = q38 := by unfold va_up; rw [if_pos hji]
              rw [hu]
              exact Or.inr (hK.fr hq)
            · have hu : va_up s2 i q38 j = s2 j := by unfold va_up; rw [if_neg hji]
              rw [hu]
              exact hso j hj)
          by_cases hji : j = i
          · have hu : va_up s2 i q38 j = q38 := by unfold va_up; rw [if_pos hji]
            have z := e5 q38 kq4
            rw [hu, at_kd z, at_gI z, at_gI z, if_pos (by omega), i33, i34, hji]
            unfold rnu
            rw [if_pos hlt]
            exact ⟨kq4, rfl, rfl⟩
          · have hu : va_up s2 i q38 j = s2 j := by unfold va_up; rw [if_neg hji]
            obtain ⟨g1, g2, g3⟩ := hs j hj
            have z4 := hK4.at (a := s2 j) (by rw [g1]; decide) (fun h => h)
            have z := e5 (s2 j) (by rw [at_kd z4]; exact g1)
            rw [hu, at_kd z, at_gI z, at_gI z, at_kd z4, at_gI z4, at_gI z4]
            refine ⟨g1, ?_, g3⟩
            rw [g2]
            by_cases hj2 : j < i
            · rw [if_pos hj2, if_pos (by omega)]
            · rw [if_neg hj2, if_neg (by omega)]
  exact loop n 0 _ _ H _ _ st (by omega) (by omega) (by omega) Ks.rf a11 (fun j hj => by rw [if_neg (by omega)]; exact a12 j hj) (fun _ _ => Or.inl rfl)
end Cable
