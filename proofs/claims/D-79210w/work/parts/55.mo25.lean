set_option maxRecDepth 100000
def kdF (f : Nat) : Nat := if f = 78 then 3078 else 1000 + f
/-- what the reference's steps leave: allocations, and writes to its own cells -/
def NF (H H' : AH) : Prop := ∀ a, kd H a ≠ 0 → kd H' a = kd H a ∧ ln H' a = ln H a ∧ (∀ f, f < 68 ∨ 94 < f → gI H' f a = gI H f a ∧ gR H' f a = gR H f a) ∧ (∀ k, gQ H' k a = gQ H k a) ∧ (∀ k, k < 1068 ∨ 1094 < k → k ≠ 3078 → gA H' k a = gA H k a) ∧ gL H' a = gL H a ∧ gD H' a = gD H a
theorem NF.rf {H : AH} : NF H H := fun _ _ => ⟨rfl, rfl, fun _ _ => ⟨rfl, rfl⟩, fun _ => rfl, fun _ _ _ => rfl, rfl, rfl⟩
theorem NF.tr {H H1 H2 : AH} (h : NF H H1) (k : NF H1 H2) : NF H H2 := by
  intro a ha
  obtain ⟨a1, a2, a3, a4, a5, a6, a7⟩ := h a ha
  obtain ⟨b1, b2, b3, b4, b5, b6, b7⟩ := k a (by rw [a1]; exact ha)
  exact ⟨b1.trans a1, b2.trans a2, fun f hf => ⟨(b3 f hf).1.trans (a3 f hf).1, (b3 f hf).2.trans (a3 f hf).2⟩, fun k => (b4 k).trans (a4 k), fun k h1 h2 => (b5 k h1 h2).trans (a5 k h1 h2), b6.trans a6, b7.trans a7⟩
theorem NF.mf {H H' : AH} (h : MF H H') : NF H H' := by
  obtain ⟨h1, h2, h3, h4, h5, h6, h7, h8⟩ := h
  intro a _
  exact ⟨by rw [h1], by rw [h2], fun f hf => ⟨by rw [h7 f hf], by rw [h3]⟩, fun k => by rw [h4], fun k k1 k2 => by rw [h8 k k1 k2], by rw [h5], by rw [h6]⟩
theorem NF.step {m q k n f : Nat} {H : AH} (hq : kd H q = 0) (h1 : 68 ≤ f) (h2 : f ≤ 94) : NF H (sR (nA H q k n) f m (some q)) := by
  intro a ha
  have hne : a ≠ q := by intro e; rw [e] at ha; exact ha hq
  refine ⟨?_, ?_, ?_, ?_, ?_, ?_, ?_⟩
  · show kd (nA H q k n) a = _; rw [kd_nA, if_neg hne]
  · show ln (nA H q k n) a = _; rw [ln_nA, if_neg hne]
  · intro f' hf'
    refine ⟨rfl, ?_⟩
    rw [gR_sR, if_neg (fun q => by omega)]
    rfl
  · intro k'
    show gQ (nA H q k n) k' a = _; rw [gQ_nA, if_neg (fun q => hne q.2)]
  · intro k' _ _
    show gA (nA H q k n) k' a = _; rw [gA_nA, if_neg (fun q => hne q.2)]
  · show gL (nA H q k n) a = _; rw [gL_nA, if_neg hne]
  · show gD (nA H q k n) a = _; rw [gD_nA, if_neg hne]
def MIn (H : AH) (m : Nat) (ma : Nat → Nat) (S : List Nat) : Prop := kd H m = 19 ∧ ∀ f, f ∈ S → gR H f m = some (ma f) ∧ kd H (ma f) = kdF f ∧ ln H (ma f) = lenF f ∧ gA H (kdF f) (ma f) = fun _ => 0
theorem kdF_ne {f : Nat} : kdF f ≠ 0 := by unfold kdF; split <;> omega
theorem MIn.step {H : AH} {m q f : Nat} {ma : Nat → Nat} {S : List Nat} (h : MIn H m ma S) (hq : kd H q = 0) (hf : f ∉ S) : MIn (sR (nA H q (kdF f) (lenF f)) f m (some q)) m (fun f' => if f' = f then q else ma f') (f :: S) := by
  obtain ⟨h1, h2⟩ := h
  have hmq : m ≠ q := by intro e; rw [← e, h1] at hq; exact absurd hq (by decide)
  refine ⟨?_, ?_⟩
  · show kd (nA H q (kdF f) (lenF f)) m = 19; rw [kd_nA, if_neg hmq]; exact h1
  · intro f' hf'
    by_cases hff : f' = f
    · subst hff
      dsimp only
      rw [if_pos rfl]
      refine ⟨gR_sRs, ?_, ?_, ?_⟩
      · show kd (nA H q (kdF f') (lenF f')) q = _; rw [kd_nA, if_pos rfl]
      · show ln (nA H q (kdF f') (lenF f')) q = _; rw [ln_nA, if_pos rfl]
      · show gA (nA H q (kdF f') (lenF f')) _ q = _; rw [gA_nA, if_pos ⟨rfl, rfl⟩]
    · dsimp only
      rw [if_neg hff]
      have hmem : f' ∈ S := by
        rcases List.mem_cons.mp hf' with h | h
        · exact absurd h hff
        · exact h
      obtain ⟨a1, a2, a3, a4⟩ := h2 f' hmem
      have hne : ma f' ≠ q := by intro e; rw [e, hq] at a2; exact kdF_ne a2.symm
      refine ⟨?_, ?_, ?_, ?_⟩
      · rw [gR_sR, if_neg (fun q => hff q.1)]; exact a1
      · show kd (nA H q (kdF f) (lenF f)) _ = _; rw [kd_nA, if_neg hne]; exact a2
      · show ln (nA H q (kdF f) (lenF f)) _ = _; rw [ln_nA, if_neg hne]; exact a3
      · show gA (nA H q (kdF f) (lenF f)) _ _ = _; rw [gA_nA, if_neg (fun q => hne q.2)]; exact a4
theorem MIn.sI {H : AH} {m f : Nat} {ma : Nat → Nat} {S : List Nat} {v : Int32} (h : MIn H m ma S) : MIn (sI H f m v) m ma S := h
def msI : Nat := 12882
section Mo25
variable {G : Gl} {d m : Nat} {Qr : Option AV → AH → Prop} {Qx : String → Nat → AH → Prop} {H : AH}
theorem s_initM (hd : 1 ≤ d) (hm : kd H m = 19) (hI : ∀ f, gI H f m = nI 0)
    (hQ : ∀ H' ma, MO H' m ma → NF H H' → gA H' 1068 (ma 68) = g0 → PastR H' m ma [] → KeptR H' m ma none → ChR H' m ma [] → BufR H' m ma [] → gI H' 72 m = bI false → gI H' 91 m = oI none → gI H' 92 m = oI none → Qr none H') : AMet G d 15 msI yX3_init wX3_init H [vR (some m)] Qr Qx := by
  unfold msI
  have h0 : MIn H m (fun _ => 0) [] := ⟨hm, fun f hf => by cases hf⟩
  have a0 : NF H H := NF.rf
  have i0 : ∀ f, gI H f m = nI 0 := hI
  refine AMet.of (M := mX3_init) (maxL := 1) rfl rfl (Nat.le_of_ble_eq_true rfl) ?_
  show AW mX3_init _ _ _ _ _ _ _ 0 [some (vR (some m))] []
  refine r_aload_n (i := 0) dX3_init_0 rfl rfl ?_
  refine r_objInit dX3_init_1 q2776 (by with_reducible rfl) (by first | assumption | omega) (Nat.le_of_ble_eq_true rfl) ?_
  have k0 := h0.1
  refine r_aload_n (i := 0) dX3_init_4 rfl rfl ?_
  refine r_sipush (v := nI 385) dX3_init_5 (by decide) ?_
  refine r_new_int 1068 dX3_init_8 q1480 (by decide) (by first | with_reducible rfl | assumption | (simp only [nI_add, pk_mul, nI_1]; with_reducible rfl)) (by first | assumption | omega) (by first | assumption | omega) (by first | assumption | omega) (fun q8 hq8 => ?_)
  have n8 : m ≠ q8 := by intro e; rw [← e, k0] at hq8; exact absurd hq8 (by decide)
  have kk8 : kd (nA H q8 1068 385) m = 19 := by rw [kd_nA, if_neg n8]; exact k0
  refine r_putR dX3_init_10 fG_X3_7 (fun _ => by first | rfl | contradiction) (by first | assumption | (simp only [kd_sI, kd_sR, kd_sA, kd_sQ, kd_sL, kd_sD, ln_sI, ln_sR, ln_sA, ln_sQ, ln_sL, ln_sD, gI_sR, gI_sA, gI_sQ, gI_sL, gI_sD, gR_sI, gR_sA, gR_sQ, gR_sL, gR_sD, gA_sI, gA_sR, gA_sQ, gA_sL, gA_sD, gQ_sI, gQ_sR, gQ_sA, gQ_sL, gQ_sD, gL_sI, gL_sR, gL_sA, gL_sQ, gL_sD]; assumption) | simp [kd_sI, kd_sR, kd_sA, kd_sQ, kd_sL, kd_sD, ln_sI, ln_sR, ln_sA, ln_sQ, ln_sL, ln_sD, gI_sR, gI_sA, gI_sQ, gI_sL, gI_sD, gR_sI, gR_sA, gR_sQ, gR_sL, gR_sD, gA_sI, gA_sR, gA_sQ, gA_sL, gA_sD, gQ_sI, gQ_sR, gQ_sA, gQ_sL, gQ_sD, gL_sI, gL_sR, gL_sA, gL_sQ, gL_sD, kd_nO, kd_nA, *]) (by first | exact Or.inl ⟨_, rfl⟩ | exact Or.inr ⟨_, rfl⟩) ?_
  refine AW.name (fun H1 hH1 => ?_)
  have h1 := h0.step (f := 68) hq8 (by decide)
  rw [show sR (nA H q8 (kdF 68) (lenF 68)) 68 m (some q8) = H1 from hH1.symm] at h1
  have a1 : NF H H1 := by rw [hH1]; exact a0.tr (NF.step hq8 (by decide) (by decide))
  have i1 : ∀ f, gI H1 f m = nI 0 := by rw [hH1]; exact i0
  have k1 := h1.1
  refine r_aload_n (i := 0) dX3_init_13 rfl rfl ?_
  refine r_sipush (v := nI 385) dX3_init_14 (by decide) ?_
  refine r_new_int 1069 dX3_init_17 q1480 (by decide) (by first | with_reducible rfl | assumption | (simp only [nI_add, pk_mul, nI_1]; with_reducible rfl)) (by first | assumption | omega) (by first | assumption | omega) (by first | assumption | omega) (fun q17 hq17 => ?_)
  have n17 : m ≠ q17 := by intro e; rw [← e, k1] at hq17; exact absurd hq17 (by decide)
  have kk17 : kd (nA H1 q17 1069 385) m = 19 := by rw [kd_nA, if_neg n17]; exact k1
  refine r_putR dX3_init_19 fG_X3_13 (fun _ => by first | rfl | contradiction) (by first | assumption | (simp only [kd_sI, kd_sR, kd_sA, kd_sQ, kd_sL, kd_sD, ln_sI, ln_sR, ln_sA, ln_sQ, ln_sL, ln_sD, gI_sR, gI_sA, gI_sQ, gI_sL, gI_sD, gR_sI, gR_sA, gR_sQ, gR_sL, gR_sD, gA_sI, gA_sR, gA_sQ, gA_sL, gA_sD, gQ_sI, gQ_sR, gQ_sA, gQ_sL, gQ_sD, gL_sI, gL_sR, gL_sA, gL_sQ, gL_sD]; assumption) | simp [kd_sI, kd_sR, kd_sA, kd_sQ, kd_sL, kd_sD, ln_sI, ln_sR, ln_sA, ln_sQ, ln_sL, ln_sD, gI_sR, gI_sA, gI_sQ, gI_sL, gI_sD, gR_sI, gR_sA, gR_sQ, gR_sL, gR_sD, gA_sI, gA_sR, gA_sQ, gA_sL, gA_sD, gQ_sI, gQ_sR, gQ_sA, gQ_sL, gQ_sD, gL_sI, gL_sR, gL_sA, gL_sQ, gL_sD, kd_nO, kd_nA, *]) (by first | exact Or.inl ⟨_, rfl⟩ | exact Or.inr ⟨_, rfl⟩) ?_
  refine AW.name (fun H2 hH2 => ?_)
  have h2 := h1.step (f := 69) hq17 (by decide)
  rw [show sR (nA H1 q17 (kdF 69) (lenF 69)) 69 m (some q17) = H2 from hH2.symm] at h2
  have a2 : NF H H2 := by rw [hH2]; exact a1.tr (NF.step hq17 (by decide) (by decide))
  have i2 : ∀ f, gI H2 f m = nI 0 := by rw [hH2]; exact i1
  have k2 := h2.1
  refine r_aload_n (i := 0) dX3_init_22 rfl rfl ?_
  refine r_sipush (v := nI 385) dX3_init_23 (by decide) ?_
  refine r_new_int 1070 dX3_init_26 q1480 (by decide) (by first | with_reducible rfl | assumption | (simp only [nI_add, pk_mul, nI_1]; with_reducible rfl)) (by first | assumption | omega) (by first | assumption | omega) (by first | assumption | omega) (fun q26 hq26 => ?_)
  have n26 : m ≠ q26 := by intro e; rw [← e, k2] at hq26; exact absurd hq26 (by decide)
  have kk26 : kd (nA H2 q26 1070 385) m = 19 := by rw [kd_nA, if_neg n26]; exact k2
  refine r_putR dX3_init_28 fG_X3_16 (fun _ => by first | rfl | contradiction) (by first | assumption | (simp only [kd_sI, kd_sR, kd_sA, kd_sQ, kd_sL, kd_sD, ln_sI, ln_sR, ln_sA, ln_sQ, ln_sL, ln_sD, gI_sR, gI_sA, gI_sQ, gI_sL, gI_sD, gR_sI, gR_sA, gR_sQ, gR_sL, gR_sD, gA_sI, gA_sR, gA_sQ, gA_sL, gA_sD, gQ_sI, gQ_sR, gQ_sA, gQ_sL, gQ_sD, gL_sI, gL_sR, gL_sA, gL_sQ, gL_sD]; assumption) | simp [kd_sI, kd_sR, kd_sA, kd_sQ, kd_sL, kd_sD, ln_sI, ln_sR, ln_sA, ln_sQ, ln_sL, ln_sD, gI_sR, gI_sA, gI_sQ, gI_sL, gI_sD, gR_sI, gR_sA, gR_sQ, gR_sL, gR_sD, gA_sI, gA_sR, gA_sQ, gA_sL, gA_sD, gQ_sI, gQ_sR, gQ_sA, gQ_sL, gQ_sD, gL_sI, gL_sR, gL_sA, gL_sQ, gL_sD, kd_nO, kd_nA, *]) (by first | exact Or.inl ⟨_, rfl⟩ | exact Or.inr ⟨_, rfl⟩) ?_
  refine AW.name (fun H3 hH3 => ?_)
  have h3 := h2.step (f := 70) hq26 (by decide)
  rw [show sR (nA H2 q26 (kdF 70) (lenF 70)) 70 m (some q26) = H3 from hH3.symm] at h3
  have a3 : NF H H3 := by rw [hH3]; exact a2.tr (NF.step hq26 (by decide) (by decide))
  have i3 : ∀ f, gI H3 f m = nI 0 := by rw [hH3]; exact i2
  have k3 := h3.1
  refine r_aload_n (i := 0) dX3_init_31 rfl rfl ?_
  refine r_sipush (v := nI 3080) dX3_init_32 (by decide) ?_
  refine r_new_int 1073 dX3_init_35 q1480 (by decide) (by first | with_reducible rfl | assumption | (simp only [nI_add, pk_mul, nI_1]; with_reducible rfl)) (by first | assumption | omega) (by first | assumption | omega) (by first | assumption | omega) (fun q35 hq35 => ?_)
  have n35 : m ≠ q35 := by intro e; rw [← e, k3] at hq35; exact absurd hq35 (by decide)
  have kk35 : kd (nA H3 q35 1073 3080) m = 19 := by rw [kd_nA, if_neg n35]; exact k3
  refine r_putR dX3_init_37 fG_X3_19 (fun _ => by first | rfl | contradiction) (by first | assumption | (simp only [kd_sI, kd_sR, kd_sA, kd_sQ, kd_sL, kd_sD, ln_sI, ln_sR, ln_sA, ln_sQ, ln_sL, ln_sD, gI_sR, gI_sA, gI_sQ, gI_sL, gI_sD, gR_sI, gR_sA, gR_sQ, gR_sL, gR_sD, gA_sI, gA_sR, gA_sQ, gA_sL, gA_sD, gQ_sI, gQ_sR, gQ_sA, gQ_sL, gQ_sD, gL_sI, gL_sR, gL_sA, gL_sQ, gL_sD]; assumption) | simp [kd_sI, kd_sR, kd_sA, kd_sQ, kd_sL, kd_sD, ln_sI, ln_sR, ln_sA, ln_sQ, ln_sL, ln_sD, gI_sR, gI_sA, gI_sQ, gI_sL, gI_sD, gR_sI, gR_sA, gR_sQ, gR_sL, gR_sD, gA_sI, gA_sR, gA_sQ, gA_sL, gA_sD, gQ_sI, gQ_sR, gQ_sA, gQ_sL, gQ_sD, gL_sI, gL_sR, gL_sA, gL_sQ, gL_sD, kd_nO, kd_nA, *]) (by first | exact Or.inl ⟨_, rfl⟩ | exact Or.inr ⟨_, rfl⟩) ?_
  refine AW.name (fun H4 hH4 => ?_)
  have h4 := h3.step (f := 73) hq35 (by decide)
  rw [show sR (nA H3 q35 (kdF 73) (lenF 73)) 73 m (some q35) = H4 from hH4.symm] at h4
  have a4 : NF H H4 := by rw [hH4]; exact a3.tr (NF.step hq35 (by decide) (by decide))
  have i4 : ∀ f, gI H4 f m = nI 0 := by rw [hH4]; exact i3
  have k4 := h4.1
  refine r_aload_n (i := 0) dX3_init_40 rfl rfl ?_
  refine r_bipush (v := nI 16) dX3_init_41 (by decide) ?_
  refine r_new_int 1075 dX3_init_43 q1480 (by decide) (by first | with_reducible rfl | assumption | (simp only [nI_add, pk_mul, nI_1]; with_reducible rfl)) (by first | assumption | omega) (by first | assumption | omega) (by first | assumption | omega) (fun q43 hq43 => ?_)
  have n43 : m ≠ q43 := by intro e; rw [← e, k4] at hq43; exact absurd hq43 (by decide)
  have kk43 : kd (nA H4 q43 1075 16) m = 19 := by rw [kd_nA, if_neg n43]; exact k4
  refine r_putR dX3_init_45 fG_X3_22 (fun _ => by first | rfl | contradiction) (by first | assumption | (simp only [kd_sI, kd_sR, kd_sA, kd_sQ, kd_sL, kd_sD, ln_sI, ln_sR, ln_sA, ln_sQ, ln_sL, ln_sD, gI_sR, gI_sA, gI_sQ, gI_sL, gI_sD, gR_sI, gR_sA, gR_sQ, gR_sL, gR_sD, gA_sI, gA_sR, gA_sQ, gA_sL, gA_sD, gQ_sI, gQ_sR, gQ_sA, gQ_sL, gQ_sD, gL_sI, gL_sR, gL_sA, gL_sQ, gL_sD]; assumption) | simp [kd_sI, kd_sR, kd_sA, kd_sQ, kd_sL, kd_sD, ln_sI, ln_sR, ln_sA, ln_sQ, ln_sL, ln_sD, gI_sR, gI_sA, gI_sQ, gI_sL, gI_sD, gR_sI, gR_sA, gR_sQ, gR_sL, gR_sD, gA_sI, gA_sR, gA_sQ, gA_sL, gA_sD, gQ_sI, gQ_sR, gQ_sA, gQ_sL, gQ_sD, gL_sI, gL_sR, gL_sA, gL_sQ, gL_sD, kd_nO, kd_nA, *]) (by first | exact Or.inl ⟨_, rfl⟩ | exact Or.inr ⟨_, rfl⟩) ?_
  refine AW.name (fun H5 hH5 => ?_)
  have h5 := h4.step (f := 75) hq43 (by decide)
  rw [show sR (nA H4 q43 (kdF 75) (lenF 75)) 75 m (some q43) = H5 from hH5.symm] at h5
  have a5 : NF H H5 := by rw [hH5]; exact a4.tr (NF.step hq43 (by decide) (by decide))
  have i5 : ∀ f, gI H5 f m = nI 0 := by rw [hH5]; exact i4
  have k5 := h5.1
  refine r_aload_n (i := 0) dX3_init_48 rfl rfl ?_
  refine r_bipush (v := nI 12) dX3_init_49 (by decide) ?_
  refine r_new_bool 3078 dX3_init_51 q2863 (by decide) (by first | with_reducible rfl | assumption | (simp only [nI_add, pk_mul, nI_1]; with_reducible rfl)) (by first | assumption | omega) (by first | assumption | omega) (by first | assumption | omega) (fun q51 hq51 => ?_)
  have n51 : m ≠ q51 := by intro e; rw [← e, k5] at hq51; exact absurd hq51 (by decide)
  have kk51 : kd (nA H5 q51 3078 12) m = 19 := by rw [kd_nA, if_neg n51]; exact k5
  refine r_putR dX3_init_53 fG_X3_25 (fun _ => by first | rfl | contradiction) (by first | assumption | (simp only [kd_sI, kd_sR, kd_sA, kd_sQ, kd_sL, kd_sD, ln_sI, ln_sR, ln_sA, ln_sQ, ln_sL, ln_sD, gI_sR, gI_sA, gI_sQ, gI_sL, gI_sD, gR_sI, gR_sA, gR_sQ, gR_sL, gR_sD, gA_sI, gA_sR, gA_sQ, gA_sL, gA_sD, gQ_sI, gQ_sR, gQ_sA, gQ_sL, gQ_sD, gL_sI, gL_sR, gL_sA, gL_sQ, gL_sD]; assumption) | simp [kd_sI, kd_sR, kd_sA, kd_sQ, kd_sL, kd_sD, ln_sI, ln_sR, ln_sA, ln_sQ, ln_sL, ln_sD, gI_sR, gI_sA, gI_sQ, gI_sL, gI_sD, gR_sI, gR_sA, gR_sQ, gR_sL, gR_sD, gA_sI, gA_sR, gA_sQ, gA_sL, gA_sD, gQ_sI, gQ_sR, gQ_sA, gQ_sL, gQ_sD, gL_sI, gL_sR, gL_sA, gL_sQ, gL_sD, kd_nO, kd_nA, *]) (by first | exact Or.inl ⟨_, rfl⟩ | exact Or.inr ⟨_, rfl⟩) ?_
  refine AW.name (fun H6 hH6 => ?_)
  have h6 := h5.step (f := 78) hq51 (by decide)
  rw [show sR (nA H5 q51 (kdF 78) (lenF 78)) 78 m (some q51) = H6 from hH6.symm] at h6
  have a6 : NF H H6 := by rw [hH6]; exact a5.tr (NF.step hq51 (by decide) (by decide))
  have i6 : ∀ f, gI H6 f m = nI 0 := by rw [hH6]; exact i5
  have k6 := h6.1
  refine r_aload_n (i := 0) dX3_init_56 rfl rfl ?_
  refine r_bipush (v := nI 8) dX3_init_57 (by decide) ?_
  refine r_new_int 1079 dX3_init_59 q1480 (by decide) (by first | with_reducible rfl | assumption | (simp only [nI_add, pk_mul, nI_1]; with_reducible rfl)) (by first | assumption | omega) (by first | assumption | omega) (by first | assumption | omega) (fun q59 hq59 => ?_)
  have n59 : m ≠ q59 := by intro e; rw [← e, k6] at hq59; exact absurd hq59 (by decide)
  have kk59 : kd (nA H6 q59 1079 8) m = 19 := by rw [kd_nA, if_neg n59]; exact k6
  refine r_putR dX3_init_61 fG_X3_29 (fun _ => by first | rfl | contradiction) (by first | assumption | (simp only [kd_sI, kd_sR, kd_sA, kd_sQ, kd_sL, kd_sD, ln_sI, ln_sR, ln_sA, ln_sQ, ln_sL, ln_sD, gI_sR, gI_sA, gI_sQ, gI_sL, gI_sD, gR_sI, gR_sA, gR_sQ, gR_sL, gR_sD, gA_sI, gA_sR, gA_sQ, gA_sL, gA_sD, gQ_sI, gQ_sR, gQ_sA, gQ_sL, gQ_sD, gL_sI, gL_sR, gL_sA, gL_sQ, gL_sD]; assumption) | simp [kd_sI, kd_sR, kd_sA, kd_sQ, kd_sL, kd_sD, ln_sI, ln_sR, ln_sA, ln_sQ, ln_sL, ln_sD, gI_sR, gI_sA, gI_sQ, gI_sL, gI_sD, gR_sI, gR_sA, gR_sQ, gR_sL, gR_sD, gA_sI, gA_sR, gA_sQ, gA_sL, gA_sD, gQ_sI, gQ_sR, gQ_sA, gQ_sL, gQ_sD, gL_sI, gL_sR, gL_sA, gL_sQ, gL_sD, kd_nO, kd_nA, *]) (by first | exact Or.inl ⟨_, rfl⟩ | exact Or.inr ⟨_, rfl⟩) ?_
  refine AW.name (fun H7 hH7 => ?_)
  have h7 := h6.step (f := 79) hq59 (by decide)
  rw [show sR (nA H6 q59 (kdF 79) (lenF 79)) 79 m (some q59) = H7 from hH7.symm] at h7
  have a7 : NF H H7 := by rw [hH7]; exact a6.tr (NF.step hq59 (by decide) (by decide))
  have i7 : ∀ f, gI H7 f m = nI 0 := by rw [hH7]; exact i6
  have k7 := h7.1
  refine r_aload_n (i := 0) dX3_init_64 rfl rfl ?_
  refine r_bipush (v := nI 8) dX3_init_65 (by decide) ?_
  refine r_new_int 1080 dX3_init_67 q1480 (by decide) (by first | with_reducible rfl | assumption | (simp only [nI_add, pk_mul, nI_1]; with_reducible rfl)) (by first | assumption | omega) (by first | assumption | omega) (by first | assumption | omega) (fun q67 hq67 => ?_)
  have n67 : m ≠ q67 := by intro e; rw [← e, k7] at hq67; exact absurd hq67 (by decide)
  have kk67 : kd (nA H7 q67 1080 8) m = 19 := by rw [kd_nA, if_neg n67]; exact k7
  refine r_putR dX3_init_69 fG_X3_32 (fun _ => by first | rfl | contradiction) (by first | assumption | (simp only [kd_sI, kd_sR, kd_sA, kd_sQ, kd_sL, kd_sD, ln_sI, ln_sR, ln_sA, ln_sQ, ln_sL, ln_sD, gI_sR, gI_sA, gI_sQ, gI_sL, gI_sD, gR_sI, gR_sA, gR_sQ, gR_sL, gR_sD, gA_sI, gA_sR, gA_sQ, gA_sL, gA_sD, gQ_sI, gQ_sR, gQ_sA, gQ_sL, gQ_sD, gL_sI, gL_sR, gL_sA, gL_sQ, gL_sD]; assumption) | simp [kd_sI, kd_sR, kd_sA, kd_sQ, kd_sL, kd_sD, ln_sI, ln_sR, ln_sA, ln_sQ, ln_sL, ln_sD, gI_sR, gI_sA, gI_sQ, gI_sL, gI_sD, gR_sI, gR_sA, gR_sQ, gR_sL, gR_sD, gA_sI, gA_sR, gA_sQ, gA_sL, gA_sD, gQ_sI, gQ_sR, gQ_sA, gQ_sL, gQ_sD, gL_sI, gL_sR, gL_sA, gL_sQ, gL_sD, kd_nO, kd_nA, *]) (by first | exact Or.inl ⟨_, rfl⟩ | exact Or.inr ⟨_, rfl⟩) ?_
  refine AW.name (fun H8 hH8 => ?_)
  have h8 := h7.step (f := 80) hq67 (by decide)
  rw [show sR (nA H7 q67 (kdF 80) (lenF 80)) 80 m (some q67) = H8 from hH8.symm] at h8
  have a8 : NF H H8 := by rw [hH8]; exact a7.tr (NF.step hq67 (by decide) (by decide))
  have i8 : ∀ f, gI H8 f m = nI 0 := by rw [hH8]; exact i7
  have k8 := h8.1
  refine r_aload_n (i := 0) dX3_init_72 rfl rfl ?_
  refine r_bipush (v := nI 9) dX3_init_73 (by decide) ?_
  refine r_new_int 1083 dX3_init_75 q1480 (by decide) (by first | with_reducible rfl | assumption | (simp only [nI_add, pk_mul, nI_1]; with_reducible rfl)) (by first | assumption | omega) (by first | assumption | omega) (by first | assumption | omega) (fun q75 hq75 => ?_)
  have n75 : m ≠ q75 := by intro e; rw [← e, k8] at hq75; exact absurd hq75 (by decide)
  have kk75 : kd (nA H8 q75 1083 9) m = 19 := by rw [kd_nA, if_neg n75]; exact k8
  refine r_putR dX3_init_77 fG_X3_35 (fun _ => by first | rfl | contradiction) (by first | assumption | (simp only [kd_sI, kd_sR, kd_sA, kd_sQ, kd_sL, kd_sD, ln_sI, ln_sR, ln_sA, ln_sQ, ln_sL, ln_sD, gI_sR, gI_sA, gI_sQ, gI_sL, gI_sD, gR_sI, gR_sA, gR_sQ, gR_sL, gR_sD, gA_sI, gA_sR, gA_sQ, gA_sL, gA_sD, gQ_sI, gQ_sR, gQ_sA, gQ_sL, gQ_sD, gL_sI, gL_sR, gL_sA, gL_sQ, gL_sD]; assumption) | simp [kd_sI, kd_sR, kd_sA, kd_sQ, kd_sL, kd_sD, ln_sI, ln_sR, ln_sA, ln_sQ, ln_sL, ln_sD, gI_sR, gI_sA, gI_sQ, gI_sL, gI_sD, gR_sI, gR_sA, gR_sQ, gR_sL, gR_sD, gA_sI, gA_sR, gA_sQ, gA_sL, gA_sD, gQ_sI, gQ_sR, gQ_sA, gQ_sL, gQ_sD, gL_sI, gL_sR, gL_sA, gL_sQ, gL_sD, kd_nO, kd_nA, *]) (by first | exact Or.inl ⟨_, rfl⟩ | exact Or.inr ⟨_, rfl⟩) ?_
  refine AW.name (fun H9 hH9 => ?_)
  have h9 := h8.step (f := 83) hq75 (by decide)
  rw [show sR (nA H8 q75 (kdF 83) (lenF 83)) 83 m (some q75) = H9 from hH9.symm] at h9
  have a9 : NF H H9 := by rw [hH9]; exact a8.tr (NF.step hq75 (by decide) (by decide))
  have i9 : ∀ f, gI H9 f m = nI 0 := by rw [hH9]; exact i8
  have k9 := h9.1
  refine r_aload_n (i := 0) dX3_init_80 rfl rfl ?_
  refine r_bipush (v := nI 12) dX3_init_81 (by decide) ?_
  refine r_new_int 1084 dX3_init_83 q1480 (by decide) (by first | with_reducible rfl | assumption | (simp only [nI_add, pk_mul, nI_1]; with_reducible rfl)) (by first | assumption | omega) (by first | assumption | omega) (by first | assumption | omega) (fun q83 hq83 => ?_)
  have n83 : m ≠ q83 := by intro e; rw [← e, k9] at hq83; exact absurd hq83 (by decide)
  have kk83 : kd (nA H9 q83 1084 12) m = 19 := by rw [kd_nA, if_neg n83]; exact k9
  refine r_putR dX3_init_85 fG_X3_38 (fun _ => by first | rfl | contradiction) (by first | assumption | (simp only [kd_sI, kd_sR, kd_sA, kd_sQ, kd_sL, kd_sD, ln_sI, ln_sR, ln_sA, ln_sQ, ln_sL, ln_sD, gI_sR, gI_sA, gI_sQ, gI_sL, gI_sD, gR_sI, gR_sA, gR_sQ, gR_sL, gR_sD, gA_sI, gA_sR, gA_sQ, gA_sL, gA_sD, gQ_sI, gQ_sR, gQ_sA, gQ_sL, gQ_sD, gL_sI, gL_sR, gL_sA, gL_sQ, gL_sD]; assumption) | simp [kd_sI, kd_sR, kd_sA, kd_sQ, kd_sL, kd_sD, ln_sI, ln_sR, ln_sA, ln_sQ, ln_sL, ln_sD, gI_sR, gI_sA, gI_sQ, gI_sL, gI_sD, gR_sI, gR_sA, gR_sQ, gR_sL, gR_sD, gA_sI, gA_sR, gA_sQ, gA_sL, gA_sD, gQ_sI, gQ_sR, gQ_sA, gQ_sL, gQ_sD, gL_sI, gL_sR, gL_sA, gL_sQ, gL_sD, kd_nO, kd_nA, *]) (by first | exact Or.inl ⟨_, rfl⟩ | exact Or.inr ⟨_, rfl⟩) ?_
  refine AW.name (fun H10 hH10 => ?_)
  have h10 := h9.step (f := 84) hq83 (by decide)
  rw [show sR (nA H9 q83 (kdF 84) (lenF 84)) 84 m (some q83) = H10 from hH10.symm] at h10
  have a10 : NF H H10 := by rw [hH10]; exact a9.tr (NF.step hq83 (by decide) (by decide))
  have i10 : ∀ f, gI H10 f m = nI 0 := by rw [hH10]; exact i9
  have k10 := h10.1
  refine r_aload_n (i := 0) dX3_init_88 rfl rfl ?_
  refine r_bipush (v := nI 10) dX3_init_89 (by decide) ?_
  refine r_new_int 1085 dX3_init_91 q1480 (by decide) (by first | with_reducible rfl | assumption | (simp only [nI_add, pk_mul, nI_1]; with_reducible rfl)) (by first | assumption | omega) (by first | assumption | omega) (by first | assumption | omega) (fun q91 hq91 => ?_)
  have n91 : m ≠ q91 := by intro e; rw [← e, k10] at hq91; exact absurd hq91 (by decide)
  have kk91 : kd (nA H10 q91 1085 10) m = 19 := by rw [kd_nA, if_neg n91]; exact k10
  refine r_putR dX3_init_93 fG_X3_41 (fun _ => by first | rfl | contradiction) (by first | assumption | (simp only [kd_sI, kd_sR, kd_sA, kd_sQ, kd_sL, kd_sD, ln_sI, ln_sR, ln_sA, ln_sQ, ln_sL, ln_sD, gI_sR, gI_sA, gI_sQ, gI_sL, gI_sD, gR_sI, gR_sA, gR_sQ, gR_sL, gR_sD, gA_sI, gA_sR, gA_sQ, gA_sL, gA_sD, gQ_sI, gQ_sR, gQ_sA, gQ_sL, gQ_sD, gL_sI, gL_sR, gL_sA, gL_sQ, gL_sD]; assumption) | simp [kd_sI, kd_sR, kd_sA, kd_sQ, kd_sL, kd_sD, ln_sI, ln_sR, ln_sA, ln_sQ, ln_sL, ln_sD, gI_sR, gI_sA, gI_sQ, gI_sL, gI_sD, gR_sI, gR_sA, gR_sQ, gR_sL, gR_sD, gA_sI, gA_sR, gA_sQ, gA_sL, gA_sD, gQ_sI, gQ_sR, gQ_sA, gQ_sL, gQ_sD, gL_sI, gL_sR, gL_sA, gL_sQ, gL_sD, kd_nO, kd_nA, *]) (by first | exact Or.inl ⟨_, rfl⟩ | exact Or.inr ⟨_, rfl⟩) ?_
  refine AW.name (fun H11 hH11 => ?_)
  have h11 := h10.step (f := 85) hq91 (by decide)
  rw [show sR (nA H10 q91 (kdF 85) (lenF 85)) 85 m (some q91) = H11 from hH11.symm] at h11
  have a11 : NF H H11 := by rw [hH11]; exact a10.tr (NF.step hq91 (by decide) (by decide))
  have i11 : ∀ f, gI H11 f m = nI 0 := by rw [hH11]; exact i10
  have k11 := h11.1
  refine r_aload_n (i := 0) dX3_init_96 rfl rfl ?_
  refine r_sipush (v := nI 4096) dX3_init_97 (by decide) ?_
  refine r_new_int 1086 dX3_init_100 q1480 (by decide) (by first | with_reducible rfl | assumption | (simp only [nI_add, pk_mul, nI_1]; with_reducible rfl)) (by first | assumption | omega) (by first | assumption | omega) (by first | assumption | omega) (fun q100 hq100 => ?_)
  have n100 : m ≠ q100 := by intro e; rw [← e, k11] at hq100; exact absurd hq100 (by decide)
  have kk100 : kd (nA H11 q100 1086 4096) m = 19 := by rw [kd_nA, if_neg n100]; exact k11
  refine r_putR dX3_init_102 fG_X3_44 (fun _ => by first | rfl | contradiction) (by first | assumption | (simp only [kd_sI, kd_sR, kd_sA, kd_sQ, kd_sL, kd_sD, ln_sI, ln_sR, ln_sA, ln_sQ, ln_sL, ln_sD, gI_sR, gI_sA, gI_sQ, gI_sL, gI_sD, gR_sI, gR_sA, gR_sQ, gR_sL, gR_sD, gA_sI, gA_sR, gA_sQ, gA_sL, gA_sD, gQ_sI, gQ_sR, gQ_sA, gQ_sL, gQ_sD, gL_sI, gL_sR, gL_sA, gL_sQ, gL_sD]; assumption) | simp [kd_sI, kd_sR, kd_sA, kd_sQ, kd_sL, kd_sD, ln_sI, ln_sR, ln_sA, ln_sQ, ln_sL, ln_sD, gI_sR, gI_sA, gI_sQ, gI_sL, gI_sD, gR_sI, gR_sA, gR_sQ, gR_sL, gR_sD, gA_sI, gA_sR, gA_sQ, gA_sL, gA_sD, gQ_sI, gQ_sR, gQ_sA, gQ_sL, gQ_sD, gL_sI, gL_sR, gL_sA, gL_sQ, gL_sD, kd_nO, kd_nA, *]) (by first | exact Or.inl ⟨_, rfl⟩ | exact Or.inr ⟨_, rfl⟩) ?_
  refine AW.name (fun H12 hH12 => ?_)
  have h12 := h11.step (f := 86) hq100 (by decide)
  rw [show sR (nA H11 q100 (kdF 86) (lenF 86)) 86 m (some q100) = H12 from hH12.symm] at h12
  have a12 : NF H H12 := by rw [hH12]; exact a11.tr (NF.step hq100 (by decide) (by decide))
  have i12 : ∀ f, gI H12 f m = nI 0 := by rw [hH12]; exact i11
  have k12 := h12.1
  refine r_aload_n (i := 0) dX3_init_105 rfl rfl ?_
  refine r_sipush (v := nI 4096) dX3_init_106 (by decide) ?_
  refine r_new_int 1087 dX3_init_109 q1480 (by decide) (by first | with_reducible rfl | assumption | (simp only [nI_add, pk_mul, nI_1]; with_reducible rfl)) (by first | assumption | omega) (by first | assumption | omega) (by first | assumption | omega) (fun q109 hq109 => ?_)
  have n109 : m ≠ q109 := by intro e; rw [← e, k12] at hq109; exact absurd hq109 (by decide)
  have kk109 : kd (nA H12 q109 1087 4096) m = 19 := by rw [kd_nA, if_neg n109]; exact k12
  refine r_putR dX3_init_111 fG_X3_47 (fun _ => by first | rfl | contradiction) (by first | assumption | (simp only [kd_sI, kd_sR, kd_sA, kd_sQ, kd_sL, kd_sD, ln_sI, ln_sR, ln_sA, ln_sQ, ln_sL, ln_sD, gI_sR, gI_sA, gI_sQ, gI_sL, gI_sD, gR_sI, gR_sA, gR_sQ, gR_sL, gR_sD, gA_sI, gA_sR, gA_sQ, gA_sL, gA_sD, gQ_sI, gQ_sR, gQ_sA, gQ_sL, gQ_sD, gL_sI, gL_sR, gL_sA, gL_sQ, gL_sD]; assumption) | simp [kd_sI, kd_sR, kd_sA, kd_sQ, kd_sL, kd_sD, ln_sI, ln_sR, ln_sA, ln_sQ, ln_sL, ln_sD, gI_sR, gI_sA, gI_sQ, gI_sL, gI_sD, gR_sI, gR_sA, gR_sQ, gR_sL, gR_sD, gA_sI, gA_sR, gA_sQ, gA_sL, gA_sD, gQ_sI, gQ_sR, gQ_sA, gQ_sL, gQ_sD, gL_sI, gL_sR, gL_sA, gL_sQ, gL_sD, kd_nO, kd_nA, *]) (by first | exact Or.inl ⟨_, rfl⟩ | exact Or.inr ⟨_, rfl⟩) ?_
  refine AW.name (fun H13 hH13 => ?_)
  have h13 := h12.step (f := 87) hq109 (by decide)
  rw [show sR (nA H12 q109 (kdF 87) (lenF 87)) 87 m (some q109) = H13 from hH13.symm] at h13
  have a13 : NF H H13 := by rw [hH13]; exact a12.tr (NF.step hq109 (by decide) (by decide))
  have i13 : ∀ f, gI H13 f m = nI 0 := by rw [hH13]; exact i12
  have k13 := h13.1
  refine r_aload_n (i := 0) dX3_init_114 rfl rfl ?_
  refine r_bipush (v := nI 60) dX3_init_115 (by decide) ?_
  refine r_new_int 1088 dX3_init_117 q1480 (by decide) (by first | with_reducible rfl | assumption | (simp only [nI_add, pk_mul, nI_1]; with_reducible rfl)) (by first | assumption | omega) (by first | assumption | omega) (by first | assumption | omega) (fun q117 hq117 => ?_)
  have n117 : m ≠ q117 := by intro e; rw [← e, k13] at hq117; exact absurd hq117 (by decide)
  have kk117 : kd (nA H13 q117 1088 60) m = 19 := by rw [kd_nA, if_neg n117]; exact k13
  refine r_putR dX3_init_119 fG_X3_50 (fun _ => by first | rfl | contradiction) (by first | assumption | (simp only [kd_sI, kd_sR, kd_sA, kd_sQ, kd_sL, kd_sD, ln_sI, ln_sR, ln_sA, ln_sQ, ln_sL, ln_sD, gI_sR, gI_sA, gI_sQ, gI_sL, gI_sD, gR_sI, gR_sA, gR_sQ, gR_sL, gR_sD, gA_sI, gA_sR, gA_sQ, gA_sL, gA_sD, gQ_sI, gQ_sR, gQ_sA, gQ_sL, gQ_sD, gL_sI, gL_sR, gL_sA, gL_sQ, gL_sD]; assumption) | simp [kd_sI, kd_sR, kd_sA, kd_sQ, kd_sL, kd_sD, ln_sI, ln_sR, ln_sA, ln_sQ, ln_sL, ln_sD, gI_sR, gI_sA, gI_sQ, gI_sL, gI_sD, gR_sI, gR_sA, gR_sQ, gR_sL, gR_sD, gA_sI, gA_sR, gA_sQ, gA_sL, gA_sD, gQ_sI, gQ_sR, gQ_sA, gQ_sL, gQ_sD, gL_sI, gL_sR, gL_sA, gL_sQ, gL_sD, kd_nO, kd_nA, *]) (by first | exact Or.inl ⟨_, rfl⟩ | exact Or.inr ⟨_, rfl⟩) ?_
  refine AW.name (fun H14 hH14 => ?_)
  have h14 := h13.step (f := 88) hq117 (by decide)
  rw [show sR (nA H13 q117 (kdF 88) (lenF 88)) 88 m (some q117) = H14 from hH14.symm] at h14
  have a14 : NF H H14 := by rw [hH14]; exact a13.tr (NF.step hq117 (by decide) (by decide))
  have i14 : ∀ f, gI H14 f m = nI 0 := by rw [hH14]; exact i13
  have k14 := h14.1
  refine r_aload_n (i := 0) dX3_init_122 rfl rfl ?_
  refine r_iconst (v := -1) dX3_init_123 (by decide) ?_
  refine r_putI dX3_init_124 fG_X3_53 (fun _ => by first | rfl | contradiction) (by first | assumption | (simp only [kd_sI, kd_sR, kd_sA, kd_sQ, kd_sL, kd_sD, ln_sI, ln_sR, ln_sA, ln_sQ, ln_sL, ln_sD, gI_sR, gI_sA, gI_sQ, gI_sL, gI_sD, gR_sI, gR_sA, gR_sQ, gR_sL, gR_sD, gA_sI, gA_sR, gA_sQ, gA_sL, gA_sD, gQ_sI, gQ_sR, gQ_sA, gQ_sL, gQ_sD, gL_sI, gL_sR, gL_sA, gL_sQ, gL_sD]; assumption) | simp [kd_sI, kd_sR, kd_sA, kd_sQ, kd_sL, kd_sD, ln_sI, ln_sR, ln_sA, ln_sQ, ln_sL, ln_sD, gI_sR, gI_sA, gI_sQ, gI_sL, gI_sD, gR_sI, gR_sA, gR_sQ, gR_sL, gR_sD, gA_sI, gA_sR, gA_sQ, gA_sL, gA_sD, gQ_sI, gQ_sR, gQ_sA, gQ_sL, gQ_sD, gL_sI, gL_sR, gL_sA, gL_sQ, gL_sD, kd_nO, kd_nA, *]) (by first | rfl | assumption) (by first | rfl | assumption) ?_
  refine r_aload_n (i := 0) dX3_init_127 rfl rfl ?_
  refine r_iconst (v := -1) dX3_init_128 (by decide) ?_
  refine r_putI dX3_init_129 fG_X3_57 (fun _ => by first | rfl | contradiction) (by first | assumption | (simp only [kd_sI, kd_sR, kd_sA, kd_sQ, kd_sL, kd_sD, ln_sI, ln_sR, ln_sA, ln_sQ, ln_sL, ln_sD, gI_sR, gI_sA, gI_sQ, gI_sL, gI_sD, gR_sI, gR_sA, gR_sQ, gR_sL, gR_sD, gA_sI, gA_sR, gA_sQ, gA_sL, gA_sD, gQ_sI, gQ_sR, gQ_sA, gQ_sL, gQ_sD, gL_sI, gL_sR, gL_sA, gL_sQ, gL_sD]; assumption) | simp [kd_sI, kd_sR, kd_sA, kd_sQ, kd_sL, kd_sD, ln_sI, ln_sR, ln_sA, ln_sQ, ln_sL, ln_sD, gI_sR, gI_sA, gI_sQ, gI_sL, gI_sD, gR_sI, gR_sA, gR_sQ, gR_sL, gR_sD, gA_sI, gA_sR, gA_sQ, gA_sL, gA_sD, gQ_sI, gQ_sR, gQ_sA, gQ_sL, gQ_sD, gL_sI, gL_sR, gL_sA, gL_sQ, gL_sD, kd_nO, kd_nA, *]) (by first | rfl | assumption) (by first | rfl | assumption) ?_
  refine AW.name (fun Ha hHa => ?_)
  have ha := MIn.sI (f := 92) (v := -1) (MIn.sI (f := 91) (v := -1) h14)
  rw [← hHa] at ha
  have aa : NF H Ha := by rw [hHa]; exact (a14.tr (NF.mf (MF.sI (by decide) (by decide)))).tr (NF.mf (MF.sI (by decide) (by decide)))
  have ka := ha.1
  refine r_aload_n (i := 0) dX3_init_132 rfl rfl ?_
  refine r_sipush (v := nI 320) dX3_init_133 (by decide) ?_
  refine r_new_int 1093 dX3_init_136 q1480 (by decide) (by first | with_reducible rfl | assumption | (simp only [nI_add, pk_mul, nI_1]; with_reducible rfl)) (by first | assumption | omega) (by first | assumption | omega) (by first | assumption | omega) (fun q136 hq136 => ?_)
  have n136 : m ≠ q136 := by intro e; rw [← e, ka] at hq136; exact absurd hq136 (by decide)
  have kk136 : kd (nA Ha q136 1093 320) m = 19 := by rw [kd_nA, if_neg n136]; exact ka
  refine r_putR dX3_init_138 fG_X3_60 (fun _ => by first | rfl | contradiction) (by first | assumption | (simp only [kd_sI, kd_sR, kd_sA, kd_sQ, kd_sL, kd_sD, ln_sI, ln_sR, ln_sA, ln_sQ, ln_sL, ln_sD, gI_sR, gI_sA, gI_sQ, gI_sL, gI_sD, gR_sI, gR_sA, gR_sQ, gR_sL, gR_sD, gA_sI, gA_sR, gA_sQ, gA_sL, gA_sD, gQ_sI, gQ_sR, gQ_sA, gQ_sL, gQ_sD, gL_sI, gL_sR, gL_sA, gL_sQ, gL_sD]; assumption) | simp [kd_sI, kd_sR, kd_sA, kd_sQ, kd_sL, kd_sD, ln_sI, ln_sR, ln_sA, ln_sQ, ln_sL, ln_sD, gI_sR, gI_sA, gI_sQ, gI_sL, gI_sD, gR_sI, gR_sA, gR_sQ, gR_sL, gR_sD, gA_sI, gA_sR, gA_sQ, gA_sL, gA_sD, gQ_sI, gQ_sR, gQ_sA, gQ_sL, gQ_sD, gL_sI, gL_sR, gL_sA, gL_sQ, gL_sD, kd_nO, kd_nA, *]) (by first | exact Or.inl ⟨_, rfl⟩ | exact Or.inr ⟨_, rfl⟩) ?_
  refine AW.name (fun Hb hHb => ?_)
  have hb := ha.step (f := 93) hq136 (by decide)
  rw [show sR (nA Ha q136 (kdF 93) (lenF 93)) 93 m (some q136) = Hb from hHb.symm] at hb
  have ab : NF H Hb := by rw [hHb]; exact aa.tr (NF.step hq136 (by decide) (by decide))
  have kb := hb.1
  have ib : ∀ f, gI Hb f m = if f = 92 then -1 else if f = 91 then -1 else nI 0 := by
    intro f
    rw [hHb]
    show gI Ha f m = _
    rw [hHa, gI_sI]
    by_cases h1 : f = 92
    · rw [if_pos ⟨h1, rfl⟩, if_pos h1]
    · rw [if_neg (fun q => h1 q.1), if_neg h1, gI_sI]
      by_cases h2 : f = 91
      · rw [if_pos ⟨h2, rfl⟩, if_pos h2]
      · rw [if_neg (fun q => h2 q.1), if_neg h2]
        exact i14 f
  obtain ⟨ma, hb⟩ : ∃ ma, MIn Hb m ma [93, 88, 87, 86, 85, 84, 83, 80, 79, 78, 75, 73, 70, 69, 68] := ⟨_, hb⟩
  have hMO : MO Hb m ma := by
    refine ⟨kb, ?_⟩
    intro f hf
    have hmem : f ∈ [93, 88, 87, 86, 85, 84, 83, 80, 79, 78, 75, 73, 70, 69, 68] := by
      unfold lenF at hf
      split at hf
      all_goals first | decide | exact absurd rfl hf
    obtain ⟨b1, b2, b3, -⟩ := hb.2 f hmem
    exact ⟨b1, b2, b3⟩
  have z : ∀ f, f ∈ [93, 88, 87, 86, 85, 84, 83, 80, 79, 78, 75, 73, 70, 69, 68] → gA Hb (kdF f) (ma f) = fun _ => 0 := fun f hf => (hb.2 f hf).2.2.2
  have z68 : gA Hb 1068 (ma 68) = fun _ => 0 := z 68 (by decide)
  refine r_aload_n (i := 0) dX3_init_141 rfl rfl ?_
  refine r_callV (As := []) (mc' := 0) (ms' := 0) dX3_init_142 k_X3_63 rfl (by first | assumption | (simp only [kd_sI, kd_sR, kd_sA, kd_sQ, kd_sL, kd_sD, ln_sI, ln_sR, ln_sA, ln_sQ, ln_sL, ln_sD, gI_sR, gI_sA, gI_sQ, gI_sL, gI_sD, gR_sI, gR_sA, gR_sQ, gR_sL, gR_sD, gA_sI, gA_sR, gA_sQ, gA_sL, gA_sD, gQ_sI, gQ_sR, gQ_sA, gQ_sL, gQ_sD, gL_sI, gL_sR, gL_sA, gL_sQ, gL_sD]; assumption) | simp [kd_sI, kd_sR, kd_sA, kd_sQ, kd_sL, kd_sD, ln_sI, ln_sR, ln_sA, ln_sQ, ln_sL, ln_sD, gI_sR, gI_sA, gI_sQ, gI_sL, gI_sD, gR_sI, gR_sA, gR_sQ, gR_sL, gR_sD, gA_sI, gA_sR, gA_sQ, gA_sL, gA_sD, gQ_sI, gQ_sR, gQ_sA, gQ_sL, gQ_sD, gL_sI, gL_sR, gL_sA, gL_sQ, gL_sD, kd_nO, kd_nA, *]) (T := TX3) (N := 27) rfl (by first | assumption | omega) (by first | assumption | omega) (by first | assumption | omega) (Nat.le_of_ble_eq_true rfl) ?_
  refine s_begins hMO (by rw [z68]; intro i _; rfl) ?_
  intro Hc hUc hgc hpc
  show AW mX3_init G d Qr Qx _ _ Hc 145 _ _
  refine r_return dX3_init_145 rfl ?_
  refine hQ Hc ma (hMO.mf hUc.1) ?_ hgc ?_ ?_ ?_ ?_ ?_ ?_ ?_
  · exact ab.tr (NF.mf hUc.1)
  · exact ⟨hpc, by decide, fun k j hk => absurd hk (by simp), fun k => by simp; intro i _; rfl⟩
  · refine ⟨by rw [(hUc.2 71 (by decide)).1, ib]; rfl, fun k hk => by cases hk⟩
  · exact ⟨by rw [(hUc.2 76 (by decide)).1, ib]; rfl, by decide, fun k hk => absurd hk (by simp)⟩
  · exact ⟨by rw [(hUc.2 89 (by decide)).1, ib]; rfl, by decide, fun k hk => absurd hk (by simp), fun b hb => by cases hb⟩
  · rw [(hUc.2 72 (by decide)).1, ib]; rfl
  · rw [(hUc.2 91 (by decide)).1, ib]; rfl
  · rw [(hUc.2 92 (by decide)).1, ib]; rfl
end Mo25
