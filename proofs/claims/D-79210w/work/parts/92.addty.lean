set_option maxRecDepth 100000
/-! A TYPE BY ITS NAME -/
def hN (cs : Nat → Nat) : Nat → Nat
  | 0 => 0
  | m + 1 => 31 * hN cs m + cs m
theorem hsh_N (cs : Nat → Nat) (m : Nat) : hsh cs m = nI (hN cs m) := by
  induction m with
  | zero => rfl
  | succ m ih =>
    show nI 31 * hsh cs m + nI (cs m) = nI (31 * hN cs m + cs m)
    rw [ih, pk_mul, nI_add]
theorem hsh_n0 {cs : Nat → Nat} {m : Nat} (h0 : 0 < m) (h3 : m ≤ 3) (hc : ∀ i, i < m → 0 < cs i ∧ cs i < 128) : hsh cs m ≠ 0 := by
  rw [hsh_N]
  have hb : 0 < hN cs m ∧ hN cs m < 200000 := by
    rcases (show m = 1 ∨ m = 2 ∨ m = 3 by omega) with rfl | rfl | rfl
    · have := hc 0 (by omega)
      simp only [hN]
      omega
    · have := hc 0 (by omega)
      have := hc 1 (by omega)
      simp only [hN]
      omega
    · have := hc 0 (by omega)
      have := hc 1 (by omega)
      have := hc 2 (by omega)
      simp only [hN]
      omega
  exact nI_ne (b := 0) (by omega) (by omega) (by omega)
theorem nI_beq {a b : Nat} (ha : a < 1000) (hb : b < 1000) : (nI a == nI b) = decide (a = b) := by
  by_cases h : a = b
  · subst h
    rw [beq_self_eq_true]
    exact (decide_eq_true rfl).symm
  · rw [decide_eq_false h]
    exact beq_false_of_ne (nI_ne h (by omega) (by omega))
theorem named_mtk {g : Nat → Int32} {nm : List Nat} (hY : GY g) (hl : nm.length < 1000) (hb : ∀ b, b ∈ nm → b < 128) : find9 (mtk (nmL g) (nmF g) nm.length (fun i => nm.getD i 0)) 0 (nat g 3) = q_named g nm := by
  unfold q_named
  refine find9_cg _ _ (fun t _ ht => ?_)
  have hy := hY.1 t (by omega)
  have h7 := hy.1
  have hb' : ∀ i, i < nm.length → nm.getD i 0 < 128 := fun i hi => by
    have : nm.getD i 0 = nm[i] := by simp [List.getD, hi]
    rw [this]
    exact hb _ (List.getElem_mem hi)
  rw [h7.1, nI_beq (by have := h7.2; omega) (by omega)]
  unfold mtk
  by_cases hm : nm.length = nmL g t
  · have e1 : nat g (7 + 6 * t) = nm.length := hm.symm
    rw [decide_eq_true e1, Bool.true_and]
    cases hf : find9 (fun i => !(g (4 + 6 * t + i) == nI (nm.getD i 0))) 0 nm.length with
    | none =>
      have hn := find9_no hf
      refine decide_eq_true ⟨hm, fun i hi => ?_⟩
      have h1 := hn i (Nat.zero_le _) (by omega)
      have hl1 := (hy.2.2.1 i (by rw [e1]; exact hi)).1
      rw [hl1.1, nI_beq (by have := hl1.2; omega) (by have := hb' i hi; omega)] at h1
      simp only [Bool.not_eq_false', decide_eq_true_eq] at h1
      exact h1.symm
    | some i =>
      obtain ⟨h1, h2, h3, -⟩ := find9_in hf
      refine decide_eq_false (fun q => ?_)
      have hl1 := (hy.2.2.1 i (by rw [e1]; omega)).1
      rw [hl1.1, nI_beq (by have := hl1.2; omega) (by have := hb' i (by omega); omega)] at h3
      simp only [Bool.not_eq_true', decide_eq_false_iff_not] at h3
      exact h3 (q.2 i (by omega)).symm
  · have e1 : ¬ nat g (7 + 6 * t) = nm.length := fun e => hm e.symm
    rw [decide_eq_false e1, Bool.false_and]
    exact decide_eq_false (fun q => hm q.1)
/-- a name as an item holds it -/
def NmS (H : AH) (O : Nat → Nat) (a m : Nat) (cs : Nat → Nat) : Prop := ST H a m cs ∧ (O a = 0 ∨ O a = 6) ∧ (∀ v, gR H 113 a = some v → O v = 0) ∧ (gI H 115 a = 0 → O a = 6)
section AddTy
variable {G : Gl} {d : Nat} {Qr : Option AV → AH → Prop} {Qx : String → Nat → AH → Prop} {H : AH} {O : Nat → Nat} {p t a : Nat} {A : PA} {g : Nat → Int32} {it : Itm}
theorem SH_no {cs : Nat → Nat} {m : Nat} (h : NmS H O a m cs) {b : Nat} (q : SH H a b) : O b ≠ 0 ∧ (O b = 6 → gI H 115 b = 0) ∧ O b = 6 := by
  have := h.2.2.2 q.2
  rw [q.1]
  exact ⟨by omega, fun _ => q.2, this⟩
theorem pl_addType (hd : 10 ≤ d) (hP : IsP G H O t p A g) (hI : IG g) (hok : okI it) (h107 : it.1 = 107) (hs : NmS H O a it.2.1.length (fun i => it.2.1.getD i 0)) (hQ : c_type g it = true → ∀ H' O', Stq G (fun b => O b / 8 = t ∨ SH H a b) H O H' O' → IsPlan G H' O' t p (typeG g it) → Qr none H') (hX : c_type g it = false → ∀ E q H', E = "java/lang/IllegalArgumentException" ∨ E = "java/lang/IllegalStateException" → Stq G (SH H a) H O H' O → Qx E q H') : AMet G d 6 57 yX2_addType wX2_addType H [vR (some p), vR (some a), vI (nv it 0), vI (nv it 1)] Qr Qx := by
  have hB := hI.1
  have hYY := hI.2.2.2.2.2.2.2.1
  obtain ⟨o1, o2, o3, -, -⟩ := hok
  have ol := o2 (by omega)
  have hP0 := hP
  obtain ⟨h0, h1, ⟨eT, ty, nm, nd, h2⟩, h3, h4, h5⟩ := hP
  obtain ⟨⟨p1, p8, p9, p10, p11, p12, p13, p14, p15⟩, pO⟩ := h1
  have h36 := hB.1.2
  have h40 := hB.2.1.2
  have h101 := hB.2.2.1.2
  have kr := h2.1.1
  have hnm := named_mtk (nm := it.2.1) hYY (by omega) (fun b hb => by have := o3 b hb; omega)
  obtain ⟨n, hn⟩ : ∃ n, nat g 3 = n := ⟨_, rfl⟩
  obtain ⟨cc, hcc⟩ : ∃ cc, c_type g it = cc := ⟨_, rfl⟩
  rw [hcc] at hQ hX
  unfold c_type at hcc
  rw [hn] at hcc h2 hnm h36
  change ((q_named g it.2.1).isNone && !(decide (n = 6)) && inB (nv it 0) (nI 0) (nI 2) && inB (nv it 1) (nI 1) (nI 99)) = cc at hcc
  refine AMet.of (M := mX2_addType) (maxL := 4) (by first | rfl | decide +kernel) rfl (Nat.le_of_ble_eq_true rfl) ?_
  show AW mX2_addType _ _ _ _ _ _ _ 0 [some (vR (some p)), some (vR (some a)), some (vI (nv it 0)), some (vI (nv it 1))] []
  refine AW.st0 (fun z => ?_)
  have chk : ∀ b rc rs, 6 ≤ rc → 57 ≤ rs → (inB (nv it 0) (nI 0) (nI 2) && inB (nv it 1) (nI 1) (nI 99)) = b → AW mX2_addType G d Qr Qx rc rs H 29 [some (vR (some p)), some (vR (some a)), some (vI (nv it 0)), some (vI (nv it 1))] [vI (bI b)] := by
    intro b rc rs hrc hrs hb
    rw [Bool.and_assoc, hb] at hcc
    refine r_callSN (As := [_]) (mc' := 1) (ms' := 6) dX2_addType_29 k_X2_124 rfl (by first | assumption | omega) (by first | assumption | omega) (by first | assumption | omega) (Nat.le_of_ble_eq_true rfl) ?_
    refine s_checkArgument (by omega) (fun hb1 => ?_) (fun hb1 q => x_out (by decide) (hX (by rw [← hcc, hb1, Bool.and_false]) _ q H (Or.inl rfl) ⟨Ks.rf, fun _ _ => rfl, z⟩))
    rw [hb1, Bool.and_true] at hcc
    show AW mX2_addType G d Qr Qx _ _ H 32 _ _
    refine r_aload_n (i := 0) dX2_addType_32 rfl rfl ?_
    refine r_getR dX2_addType_33 fR_X2_12 (by first | assumption | (simp only [kd_sI, kd_sR, kd_sA, kd_sQ, kd_sL, kd_sD, ln_sI, ln_sR, ln_sA, ln_sQ, ln_sL, ln_sD, gI_sR, gI_sA, gI_sQ, gI_sL, gI_sD, gR_sI, gR_sA, gR_sQ, gR_sL, gR_sD, gA_sI, gA_sR, gA_sQ, gA_sL, gA_sD, gQ_sI, gQ_sR, gQ_sA, gQ_sL, gQ_sD, gL_sI, gL_sR, gL_sA, gL_sQ, gL_sD]; assumption) | simp [kd_sI, kd_sR, kd_sA, kd_sQ, kd_sL, kd_sD, ln_sI, ln_sR, ln_sA, ln_sQ, ln_sL, ln_sD, gI_sR, gI_sA, gI_sQ, gI_sL, gI_sD, gR_sI, gR_sA, gR_sQ, gR_sL, gR_sD, gA_sI, gA_sR, gA_sQ, gA_sL, gA_sD, gQ_sI, gQ_sR, gQ_sA, gQ_sL, gQ_sD, gL_sI, gL_sR, gL_sA, gL_sQ, gL_sD, kd_nO, kd_nA, *]) (by first | assumption | exact gI_sIs | exact gR_sRs | with_reducible rfl | (simp only [kd_sI, kd_sR, kd_sA, kd_sQ, kd_sL, kd_sD, ln_sI, ln_sR, ln_sA, ln_sQ, ln_sL, ln_sD, gI_sR, gI_sA, gI_sQ, gI_sL, gI_sD, gR_sI, gR_sA, gR_sQ, gR_sL, gR_sD, gA_sI, gA_sR, gA_sQ, gA_sL, gA_sD, gQ_sI, gQ_sR, gQ_sA, gQ_sL, gQ_sD, gL_sI, gL_sR, gL_sA, gL_sQ, gL_sD]; first | done | assumption | with_reducible rfl) | rfl) ?_
    refine r_callV (As := []) (mc' := 0) (ms' := 0) dX2_addType_36 k_X2_88 rfl (by first | assumption | (simp only [kd_sI, kd_sR, kd_sA, kd_sQ, kd_sL, kd_sD, ln_sI, ln_sR, ln_sA, ln_sQ, ln_sL, ln_sD, gI_sR, gI_sA, gI_sQ, gI_sL, gI_sD, gR_sI, gR_sA, gR_sQ, gR_sL, gR_sD, gA_sI, gA_sR, gA_sQ, gA_sL, gA_sD, gQ_sI, gQ_sR, gQ_sA, gQ_sL, gQ_sD, gL_sI, gL_sR, gL_sA, gL_sQ, gL_sD]; assumption) | simp [kd_sI, kd_sR, kd_sA, kd_sQ, kd_sL, kd_sD, ln_sI, ln_sR, ln_sA, ln_sQ, ln_sL, ln_sD, gI_sR, gI_sA, gI_sQ, gI_sL, gI_sD, gR_sI, gR_sA, gR_sQ, gR_sL, gR_sD, gA_sI, gA_sR, gA_sQ, gA_sL, gA_sD, gQ_sI, gQ_sR, gQ_sA, gQ_sL, gQ_sD, gL_sI, gL_sR, gL_sA, gL_sQ, gL_sD, kd_nO, kd_nA, *]) (T := TJ2) (N := 3) rfl (by first | assumption | omega) (by first | assumption | omega) (by first | assumption | omega) (Nat.le_of_ble_eq_true rfl) ?_
    refine s_size h2.1.1 h2.1.2.1 ?_
    show AW mX2_addType G d Qr Qx _ _ H 39 _ _
    have st9 : ∀ b H1, Stq G (SH H a) H O H1 O → (b = cc) → (b = true → n < 6 ∧ (STK H H1 a it.2.1.length (fun i => it.2.1.getD i 0) ∧ (gI H1 115 a = hsh (fun i => it.2.1.getD i 0) it.2.1.length ∨ n = 0)) ∧ find9 (mtk (nmL g) (nmF g) it.2.1.length (fun i => it.2.1.getD i 0)) 0 n = none) → AW mX2_addType G d Qr Qx (rc - 1) (rs - 6) H1 58 [some (vR (some p)), some (vR (some a)), some (vI (nv it 0)), some (vI (nv it 1))] [vI (bI b)] := by
      intro b H1 s1 hbc hbt
      refine r_callSN (As := [_]) (mc' := 1) (ms' := 6) dX2_addType_58 k_X2_131 rfl (by first | assumption | omega) (by first | assumption | omega) (by first | assumption | omega) (Nat.le_of_ble_eq_true rfl) ?_
      refine s_checkState (by omega) (fun hb1 => ?_) (fun hb1 q => x_out (by decide) (hX (by rw [← hbc, hb1]) _ q H1 (Or.inr rfl) s1))
      obtain ⟨hn6, ⟨hST, hh⟩, hf⟩ := hbt hb1
      obtain ⟨v1, v2, v3, v4, v5⟩ := type_v (it := it) hB (by omega)
      rw [hn] at v2 v3 v4
      show AW mX2_addType G d Qr Qx _ _ H1 61 _ _
      refine r_aload_n (i := 0) dX2_addType_61 rfl rfl ?_
      refine r_new dX2_addType_62 cT_X19 q1254 q2676 q139 (by decide +kernel) (by first | assumption | omega) (by first | assumption | omega) (fun q62 hq62 => ?_)
      have hq : kd H1 q62 = 0 := hq62
      refine AW.name (fun H2 hH2 => ?_)
      have hK2 : Ks (fun _ => False) H1 H2 := by rw [hH2]; exact Ks.rf.nO hq
      have kq : kd H2 q62 = 17 := by rw [hH2, kd_nO, if_pos rfl]
      refine r_dup dX2_addType_65 rfl ?_
      refine r_aload_n (i := 1) dX2_addType_66 rfl rfl ?_
      refine r_iload_n (i := 2) dX2_addType_67 rfl rfl ?_
      refine r_iload_n (i := 3) dX2_addType_68 rfl rfl ?_
      refine r_callI (As := [_, _, _]) (mc' := 0) (ms' := 0) dX2_addType_69 k_X2_134 rfl (by first | assumption | omega) (by first | assumption | omega) (by first | assumption | omega) (Nat.le_of_ble_eq_true rfl) ?_
      refine c_typeInit (by omega) kq ?_
      refine AW.name (fun H3 hH3 => ?_)
      have hK23 : Ks (fun b => b = q62) H2 H3 := by rw [hH3]; exact (((Ks.rf (S := fun b => b = q62)).sR (fun _ => rfl)).sI (fun _ => rfl)).sI (fun _ => rfl)
      have hK3 : Ks (fun _ => False) H1 H3 := hK2.tr2 hK23 (fun b hb e => by rw [e] at hb; exact hb hq)
      refine AW.st0 (fun z3 => ?_)
      have s3 : Stq G (fun _ => False) H1 O H3 (rlb O H1 0) := Stq.rl _ hK3 z3
      have s13 : Stq G (SH H a) H O H3 (rlb O H1 0) := s1.tr (s3.mono (fun _ _ h => h.elim))
      have x3 := h2.ks s13 (fun b hb q => by have := SH_no hs q; exact ⟨by omega, this.1, this.2.1⟩)
      have f3 := PlF.ks (p := p) ⟨⟨p1, p8, p9, p10, p11, p12, p13, p14, p15⟩, pO⟩ s13 (fun b hb q => by have := SH_no hs q; omega)
      have x4 := x3.to (g' := typeG g it) (fun y hy => by have := (hYY.1 y (by omega)).1.2; unfold nmL; omega) (fun y i hy hi => v3 _ (by omega) (by omega))
      obtain ⟨O3, hO3⟩ : ∃ O3, O3 = rlb O H1 0 := ⟨_, rfl⟩
      rw [← hO3] at s3 s13 x4 f3
      have hqO : O3 q62 = 0 := by rw [hO3]; exact rlb_f hq
      have ka : kd H a = 24 := hs.1.1
      have ka1 : kd H1 a = 24 := hST.1.1
      have ea := hK3.at (a := a) (by rw [ka1]; decide) (fun h => h)
      have e7 : nat (typeG g it) (7 + 6 * n) = it.2.1.length := by unfold nat; rw [v4.2.1]; exact nI_clamp (by omega)
      have eF : ∀ i, i < it.2.1.length → nmF (typeG g it) n i = it.2.1.getD i 0 := by
        intro i hi
        show (typeG g it (4 + 6 * n + i)).toNatClampNeg = _
        rw [v4.1 i (by omega)]
        have : it.2.1.getD i 0 = it.2.1[i] := by simp [List.getD, hi]
        have h9 := o3 _ (List.getElem_mem hi)
        exact nI_clamp (by omega)
      have hs3 : ST H3 a it.2.1.length (fun i => it.2.1.getD i 0) := hST.1.ks hK3 (fun h => h) (fun _ _ h => h)
      have hc0 : ∀ i, i < it.2.1.length → 0 < it.2.1.getD i 0 ∧ it.2.1.getD i 0 < 128 := by
        intro i hi
        have : it.2.1.getD i 0 = it.2.1[i] := by simp [List.getD, hi]
        have h9 := o3 _ (List.getElem_mem hi)
        omega
      have hh0 : gI H1 115 a = 0 → O a = 6 := by
        intro q
        by_cases h9 : gI H 115 a = 0
        · exact hs.2.2.2 h9
        · have e9 := s1.1.at (a := a) (by rw [ka]; decide) (fun k => h9 k.2)
          rw [at_gI e9] at q
          exact absurd q h9
      have tyn : TyP H3 O3 (typeG g it) n q62 a := by
        refine ⟨⟨by rw [hH3]; exact kq, ?_, ?_, ?_⟩, hqO, ?_, ?_, ?_, ?_, ?_⟩
        · rw [hH3]
          show gR (sR H2 64 q62 (some a)) 64 q62 = _
          exact gR_sRs
        · rw [hH3, gI_sIn (by decide), gI_sIs, v4.2.2.1]
          rfl
        · rw [hH3, gI_sIs, v4.2.2.2]
          rfl
        · show ST H3 a (nat (typeG g it) (7 + 6 * n)) _
          rw [e7]
          exact hs3.to (fun i hi => (eF i hi).symm)
        · rw [s13.2.1 a (by rw [ka]; decide)]
          exact hs.2.1
        · intro v hv
          rw [at_gR ea, hST.2] at hv
          obtain ⟨w, hw, hwb, -⟩ := hs.1.2.2.2.1
          rw [hw] at hv
          cases hv
          rw [s13.2.1 v (by rw [hwb.1]; decide)]
          exact hs.2.2.1 v hw
        · intro q
          rw [at_gI ea] at q
          rw [s13.2.1 a (by rw [ka]; decide)]
          exact hh0 q
        · show hsh (nmF (typeG g it) n) (nat (typeG g it) (7 + 6 * n)) ≠ 0
          rw [e7, hsh_eq eF]
          exact hsh_n0 ol o1 hc0
      have hnew : ∀ i, i < n → mtk (nmL (typeG g it)) (nmF (typeG g it)) (nmL (typeG g it) n) (nmF (typeG g it) n) i = false := by
        intro i hi
        have h9 := find9_no hf i (Nat.zero_le _) (by omega)
        unfold mtk at h9 ⊢
        rw [decide_eq_false_iff_not] at h9 ⊢
        obtain ⟨d1, d2, d3, d4, d5⟩ := nm_ag (g := g) (g' := typeG g it) (y := i) (fun j hj => v3 _ (by omega) (by omega))
        have hli := (hYY.1 i (by omega)).1.2
        intro q
        apply h9
        have q1 : it.2.1.length = nmL g i := by rw [← d4, ← q.1]; exact e7.symm
        refine ⟨q1, fun j hj => ?_⟩
        have hj6 : j < 6 := by omega
        show it.2.1.getD j 0 = nmF g i j
        rw [← eF j hj, ← d5 j hj6]
        exact q.2 j (by show j < nat (typeG g it) (7 + 6 * n); rw [e7]; exact hj)
      have kp3 := f3.1.1
      show AW mX2_addType G d Qr Qx _ _ H3 72 _ _
      refine r_callV (As := [_]) (mc' := 3) (ms' := 42) dX2_addType_72 k_X2_58 rfl (by first | assumption | (simp only [kd_sI, kd_sR, kd_sA, kd_sQ, kd_sL, kd_sD, ln_sI, ln_sR, ln_sA, ln_sQ, ln_sL, ln_sD, gI_sR, gI_sA, gI_sQ, gI_sL, gI_sD, gR_sI, gR_sA, gR_sQ, gR_sL, gR_sD, gA_sI, gA_sR, gA_sQ, gA_sL, gA_sD, gQ_sI, gQ_sR, gQ_sA, gQ_sL, gQ_sD, gL_sI, gL_sR, gL_sA, gL_sQ, gL_sD]; assumption) | simp [kd_sI, kd_sR, kd_sA, kd_sQ, kd_sL, kd_sD, ln_sI, ln_sR, ln_sA, ln_sQ, ln_sL, ln_sD, gI_sR, gI_sA, gI_sQ, gI_sL, gI_sD, gR_sI, gR_sA, gR_sQ, gR_sL, gR_sD, gA_sI, gA_sR, gA_sQ, gA_sL, gA_sD, gQ_sI, gQ_sR, gQ_sA, gQ_sL, gQ_sD, gL_sI, gL_sR, gL_sA, gL_sQ, gL_sD, kd_nO, kd_nA, *]) (T := TX2) (N := 8) rfl (by first | assumption | omega) (by first | assumption | omega) (by first | assumption | omega) (Nat.le_of_ble_eq_true rfl) ?_
      refine c_planAdd (by omega) h0 f3 x4 hn6 tyn hnew (fun H4 O4 e4 ty4 nm4 nd4 s4 x5 => ?_)
      have hSH3 : ∀ b, SH H3 a b → SH H a b := by
        intro b q
        refine ⟨q.1, ?_⟩
        by_cases h9 : gI H 115 a = 0
        · exact h9
        · have e9 := s1.1.at (a := a) (by rw [ka]; decide) (fun k => h9 k.2)
          have := q.2
          rw [at_gI ea, at_gI e9] at this
          exact this
      have nSH : ∀ b, kd H b ≠ 0 → (O3 b = 8 * t + 2 ∨ SH H3 a b) → O b / 8 = t ∨ SH H a b := by
        intro b hb q
        rcases q with q | q
        · rw [s13.2.1 b hb] at q
          exact Or.inl (by omega)
        · exact Or.inr (hSH3 b q)
      have s14 : Stq G (fun b => O b / 8 = t ∨ SH H a b) H O H4 O4 := (s13.mono (fun b _ q => Or.inr q)).tr2 s4 nSH
      have hS4 : ∀ b, kd H3 b ≠ 0 → (O3 b = 8 * t + 2 ∨ SH H3 a b) → O3 b ≠ 0 ∧ (O3 b = 8 * t + 2 ∨ O3 b = 6) := by
        intro b hb q
        rcases q with q | q
        · omega
        · have := SH_no hs (hSH3 b q)
          have ka3 : kd H b ≠ 0 := by rw [q.1, ka]; decide
          rw [s13.2.1 b ka3]
          omega
      show AW mX2_addType G d Qr Qx _ _ H4 75 _ _
      refine r_return dX2_addType_75 rfl ?_
      refine hQ (by rw [← hbc, hb1]) H4 O4 s14 ⟨A, IsP.of h0 ?_ ?_ ?_ ?_ ?_⟩
      · rw [v3 0 (by omega) (by omega), v3 1 (by omega) (by omega), v3 2 (by omega) (by omega)]
        exact f3.ks s4 (fun b hb q => by have := hS4 b hb q; omega)
      · rw [v2]
        exact ⟨_, _, _, _, x5⟩
      · have e3 : nat (typeG g it) 40 = nat g 40 := nat_eq (v3 40 (by omega) (by omega))
        rw [e3]
        exact ((h3.ks s13 (fun b hb q => by have := SH_no hs q; omega)).ks s4 (fun b hb q => by have := hS4 b hb q; omega)).to v5
      · have e3 : nat (typeG g it) 101 = nat g 101 := nat_eq (v3 101 (by omega) (by omega))
        rw [e3]
        exact ((h4.ks s13 (fun b hb q => by have := SH_no hs q; omega)).ks s4 (fun b hb q => by have := hS4 b hb q; omega)).to (fun c k hc hk => v3 _ (by omega) (by omega))
      · have e3 : nat (typeG g it) 354 = nat g 354 := nat_eq (v3 354 (by omega) (by omega))
        rw [e3]
        exact ((h5.ks s13 (fun b hb q => by have := SH_no hs q; omega)).ks s4 (fun b hb q => by have := hS4 b hb q; omega)).to (fun c k hc hk => v3 _ (by omega) (by omega))
    refine r_bipush (v := nI 6) dX2_addType_39 (by decide) ?_
    refine r_icmp_ge (tgt := 57) dX2_addType_41 (by decide) (fun h41 => ?_) (fun h41 => ?_)
    · have h6 : 6 ≤ n := (nI_leI (by omega) (by omega)).mp h41
      refine r_iconst (v := nI 0) dX2_addType_57 (by decide) ?_
      exact st9 false H ⟨Ks.rf, fun _ _ => rfl, z⟩ (by rw [← hcc, show n = 6 by omega]; simp) (fun h => by cases h)
    · have h6 : n < 6 := by
        rcases Nat.lt_or_ge n 6 with q | q
        · exact q
        · exact absurd (nI_le q (by omega)) h41
      have h6' : decide (n = 6) = false := decide_eq_false (by omega)
      rw [h6', Bool.not_false, Bool.and_true] at hcc
      refine r_aload_n (i := 0) dX2_addType_44 rfl rfl ?_
      refine r_aload_n (i := 1) dX2_addType_45 rfl rfl ?_
      refine r_callV (As := [_]) (mc' := 0) (ms' := 0) dX2_addType_46 k_X2_127 rfl (by first | assumption | (simp only [kd_sI, kd_sR, kd_sA, kd_sQ, kd_sL, kd_sD, ln_sI, ln_sR, ln_sA, ln_sQ, ln_sL, ln_sD, gI_sR, gI_sA, gI_sQ, gI_sL, gI_sD, gR_sI, gR_sA, gR_sQ, gR_sL, gR_sD, gA_sI, gA_sR, gA_sQ, gA_sL, gA_sD, gQ_sI, gQ_sR, gQ_sA, gQ_sL, gQ_sD, gL_sI, gL_sR, gL_sA, gL_sQ, gL_sD]; assumption) | simp [kd_sI, kd_sR, kd_sA, kd_sQ, kd_sL, kd_sD, ln_sI, ln_sR, ln_sA, ln_sQ, ln_sL, ln_sD, gI_sR, gI_sA, gI_sQ, gI_sL, gI_sD, gR_sI, gR_sA, gR_sQ, gR_sL, gR_sD, gA_sI, gA_sR, gA_sQ, gA_sL, gA_sD, gQ_sI, gQ_sR, gQ_sA, gQ_sL, gQ_sD, gL_sI, gL_sR, gL_sA, gL_sQ, gL_sD, kd_nO, kd_nA, *]) (T := TX2) (N := 8) rfl (by first | assumption | omega) (by first | assumption | omega) (by first | assumption | omega) (Nat.le_of_ble_eq_true rfl) ?_
      refine c_typeNamed (by omega) p1 p9 h2 hs.1 (fun H1 hK1 hST hh => ?_)
      refine AW.st0 (fun z1 => ?_)
      have s1 : Stq G (SH H a) H O H1 O := Stq.of hK1 z1
      show AW mX2_addType G d Qr Qx _ _ H1 49 _ _
      cases hf : find9 (mtk (nmL g) (nmF g) it.2.1.length (fun i => it.2.1.getD i 0)) 0 n with
      | none =>
        rw [hf] at hnm
        rw [← hnm] at hcc
        refine r_iconst (v := -1) dX2_addType_49 (by decide) ?_
        refine r_icmp_ne (tgt := 57) dX2_addType_50 (by decide) (fun h50 => ?_) (fun h50 => ?_)
        · exact absurd rfl h50
        · refine r_iconst (v := nI 1) dX2_addType_53 (by decide) ?_
          refine r_goto (tgt := 58) dX2_addType_54 (by decide) ?_
          exact st9 true H1 s1 (by rw [← hcc]; rfl) (fun _ => ⟨h6, ⟨hST, hh⟩, hf⟩)
      | some j =>
        have hj := (find9_in hf).2.1
        rw [hf] at hnm
        rw [← hnm] at hcc
        refine r_iconst (v := -1) dX2_addType_49 (by decide) ?_
        refine r_icmp_ne (tgt := 57) dX2_addType_50 (by decide) (fun h50 => ?_) (fun h50 => ?_)
        · refine r_iconst (v := nI 0) dX2_addType_57 (by decide) ?_
          exact st9 false H1 s1 (by rw [← hcc]; rfl) (fun h => by cases h)
        · have e9 : nI j ≠ -1 := by
            have : ∀ j, j < 6 → nI j ≠ -1 := by decide
            exact this j (by omega)
          exact absurd h50 e9
  refine r_iload_n (i := 2) dX2_addType_0 rfl rfl ?_
  refine r_i2l dX2_addType_1 ?_
  refine r_lconst dX2_addType_2 rfl ?_
  refine r_ldc2 dX2_addType_3 q2674 ?_
  refine r_callSN (As := [_, _, _]) (mc' := 0) (ms' := 0) dX2_addType_6 k_X2_102 rfl (by first | assumption | omega) (by first | assumption | omega) (by first | assumption | omega) (Nat.le_of_ble_eq_true rfl) ?_
  refine s_inRange (a := nI 0) (b := nI 2) (by decide) (by decide) ?_
  show AW mX2_addType G d Qr Qx _ _ H 9 _ _
  cases hb1 : inB (nv it 0) (nI 0) (nI 2) with
  | false =>
    refine r_if_eq (tgt := 28) dX2_addType_9 (by decide) (fun h9 => ?_) (fun h9 => ?_)
    · refine r_iconst (v := nI 0) dX2_addType_28 (by decide) ?_
      exact chk false _ _ (by omega) (by omega) (by rw [hb1]; rfl)
    · exact absurd rfl h9
  | true =>
    refine r_if_eq (tgt := 28) dX2_addType_9 (by decide) (fun h9 => ?_) (fun h9 => ?_)
    · exact absurd h9 (by decide)
    · refine r_iload_n (i := 3) dX2_addType_12 rfl rfl ?_
      refine r_i2l dX2_addType_13 ?_
      refine r_lconst dX2_addType_14 rfl ?_
      refine r_ldc2 dX2_addType_15 q1722 ?_
      refine r_callSN (As := [_, _, _]) (mc' := 0) (ms' := 0) dX2_addType_18 k_X2_102 rfl (by first | assumption | omega) (by first | assumption | omega) (by first | assumption | omega) (Nat.le_of_ble_eq_true rfl) ?_
      refine s_inRange (a := nI 1) (b := nI 99) (by decide) (by decide) ?_
      show AW mX2_addType G d Qr Qx _ _ H 21 _ _
      cases hb2 : inB (nv it 1) (nI 1) (nI 99) with
      | false =>
        refine r_if_eq (tgt := 28) dX2_addType_21 (by decide) (fun h21 => ?_) (fun h21 => ?_)
        · refine r_iconst (v := nI 0) dX2_addType_28 (by decide) ?_
          exact chk false _ _ (by omega) (by omega) (by rw [hb1, hb2]; rfl)
        · exact absurd rfl h21
      | true =>
        refine r_if_eq (tgt := 28) dX2_addType_21 (by decide) (fun h21 => ?_) (fun h21 => ?_)
        · exact absurd h21 (by decide)
        · refine r_iconst (v := nI 1) dX2_addType_24 (by decide) ?_
          refine r_goto (tgt := 29) dX2_addType_25 (by decide) ?_
          exact chk true _ _ (by omega) (by omega) (by rw [hb1, hb2]; rfl)
end AddTy
