set_option maxRecDepth 100000
/-! BUILDERS AND STRINGS: making them; Integers -/
section Mis
variable {G : Gl} {d : Nat} {Qr : Option AV → AH → Prop} {Qx : String → Nat → AH → Prop} {H : AH}
theorem s_sbInit6 {a : Nat} (hd : 1 ≤ d) (hk : kd H a = 23) (hz : gI H 112 a = 0) (cs : Nat → Nat) (hQ : ∀ H' v, Ks (fun b => b = a) H H' → kd H v = 0 → SB H' a 0 cs v → Qr none H') : AMet G d 1 16 yJ6_init wJ6_init H [vR (some a), vI (nI 16)] Qr Qx := by
  refine AMet.of (M := mJ6_init) (maxL := 2) (by first | rfl | decide +kernel) rfl (Nat.le_of_ble_eq_true rfl) ?_
  show AW mJ6_init _ _ _ _ _ _ _ 0 [some (vR (some a)), some (vI (nI 16))] []
  refine r_aload_n (i := 0) dJ6_init_0 rfl rfl ?_
  refine r_objInit dJ6_init_1 q279 (by with_reducible rfl) (by first | assumption | omega) (Nat.le_of_ble_eq_true rfl) ?_
  refine r_gs_compact dJ6_init_4 (Or.inl q280) ?_
  refine r_if_eq (tgt := 25) dJ6_init_7 (by decide) (fun h7 => ?_) (fun h7 => ?_)
  · exact absurd h7 (by decide)
  · refine r_aload_n (i := 0) dJ6_init_10 rfl rfl ?_
    refine r_iload_n (i := 1) dJ6_init_11 rfl rfl ?_
    refine r_new_byte 2109 dJ6_init_12 q302 (by decide) (by first | with_reducible rfl | assumption | (simp only [nI_add, pk_mul, nI_1]; with_reducible rfl)) (by first | assumption | omega) (by first | assumption | omega) (by first | assumption | omega) (fun q12 hq12 => ?_)
    have hne : ¬ a = q12 := fun h => by rw [h, hq12] at hk; cases hk
    refine r_putR dJ6_init_14 fG_J6_15_J7 (fun _ => by first | rfl | contradiction) (by first | assumption | (simp only [kd_sI, kd_sR, kd_sA, kd_sQ, kd_sL, kd_sD, ln_sI, ln_sR, ln_sA, ln_sQ, ln_sL, ln_sD, gI_sR, gI_sA, gI_sQ, gI_sL, gI_sD, gR_sI, gR_sA, gR_sQ, gR_sL, gR_sD, gA_sI, gA_sR, gA_sQ, gA_sL, gA_sD, gQ_sI, gQ_sR, gQ_sA, gQ_sL, gQ_sD, gL_sI, gL_sR, gL_sA, gL_sQ, gL_sD]; assumption) | simp [kd_sI, kd_sR, kd_sA, kd_sQ, kd_sL, kd_sD, ln_sI, ln_sR, ln_sA, ln_sQ, ln_sL, ln_sD, gI_sR, gI_sA, gI_sQ, gI_sL, gI_sD, gR_sI, gR_sA, gR_sQ, gR_sL, gR_sD, gA_sI, gA_sR, gA_sQ, gA_sL, gA_sD, gQ_sI, gQ_sR, gQ_sA, gQ_sL, gQ_sD, gL_sI, gL_sR, gL_sA, gL_sQ, gL_sD, kd_nO, kd_nA, *]) (by first | exact Or.inl ⟨_, rfl⟩ | exact Or.inr ⟨_, rfl⟩) ?_
    refine r_aload_n (i := 0) dJ6_init_17 rfl rfl ?_
    refine r_iconst (v := nI 0) dJ6_init_18 (by decide) ?_
    refine r_putI dJ6_init_19 fG_J6_22_J7 (fun _ => by first | rfl | contradiction) (by first | assumption | (simp only [kd_sI, kd_sR, kd_sA, kd_sQ, kd_sL, kd_sD, ln_sI, ln_sR, ln_sA, ln_sQ, ln_sL, ln_sD, gI_sR, gI_sA, gI_sQ, gI_sL, gI_sD, gR_sI, gR_sA, gR_sQ, gR_sL, gR_sD, gA_sI, gA_sR, gA_sQ, gA_sL, gA_sD, gQ_sI, gQ_sR, gQ_sA, gQ_sL, gQ_sD, gL_sI, gL_sR, gL_sA, gL_sQ, gL_sD]; assumption) | simp [kd_sI, kd_sR, kd_sA, kd_sQ, kd_sL, kd_sD, ln_sI, ln_sR, ln_sA, ln_sQ, ln_sL, ln_sD, gI_sR, gI_sA, gI_sQ, gI_sL, gI_sD, gR_sI, gR_sA, gR_sQ, gR_sL, gR_sD, gA_sI, gA_sR, gA_sQ, gA_sL, gA_sD, gQ_sI, gQ_sR, gQ_sA, gQ_sL, gQ_sD, gL_sI, gL_sR, gL_sA, gL_sQ, gL_sD, kd_nO, kd_nA, *]) (by first | rfl | assumption) (by first | rfl | assumption) ?_
    refine r_goto (tgt := 38) dJ6_init_22 (by decide) ?_
    refine r_return dJ6_init_38 rfl ?_
    refine hQ _ q12 ((((Ks.rf (S := fun b => b = a)).nA hq12).sR (fun _ => rfl)).sI (fun _ => rfl)) hq12 ⟨?_, gI_sIs, ?_, gR_sRs, ⟨?_, fun i hi => absurd hi (by omega)⟩, ?_, ?_, by decide⟩
    · rw [kd_sI, kd_sR, kd_nA, if_neg hne]
      exact hk
    · rw [gI_sIn (by decide)]
      exact hz
    · rw [kd_sI, kd_sR, kd_nA, if_pos rfl]
    · exact Nat.zero_le _
    · rw [ln_sI, ln_sR, ln_nA, if_pos rfl]
      exact Or.inl rfl
theorem s_sbInit {a : Nat} (hd : 2 ≤ d) (hk : kd H a = 23) (hz : gI H 112 a = 0) (cs : Nat → Nat) (hQ : ∀ H' v, Ks (fun b => b = a) H H' → kd H v = 0 → SB H' a 0 cs v → Qr none H') : AMet G d 1 16 yJ7_init wJ7_init H [vR (some a)] Qr Qx := by
  refine AMet.of (M := mJ7_init) (maxL := 1) (by first | rfl | decide +kernel) rfl (Nat.le_of_ble_eq_true rfl) ?_
  show AW mJ7_init _ _ _ _ _ _ _ 0 [some (vR (some a))] []
  refine r_aload_n (i := 0) dJ7_init_0 rfl rfl ?_
  refine r_bipush (v := nI 16) dJ7_init_1 (by decide) ?_
  refine r_callI (As := [_]) (mc' := 1) (ms' := 16) dJ7_init_3 k_J7_1 rfl (by first | assumption | omega) (by first | assumption | omega) (by first | assumption | omega) (Nat.le_of_ble_eq_true rfl) ?_
  refine s_sbInit6 (by omega) hk hz cs (fun H' v hK hv hs => ?_)
  show AW mJ7_init G d Qr Qx _ _ _ 6 _ _
  refine r_return dJ7_init_6 rfl ?_
  exact hQ H' v hK hv hs
theorem s_chkLen {a b : Nat} (h : a ≤ b) (hb : b < 1000) (hQ : Qr none H) : AMet G d 0 0 yJ23_checkLength wJ23_checkLength H [vI (nI a), vI (nI b)] Qr Qx := by
  refine AMet.of (M := mJ23_checkLength) (maxL := 2) (by first | rfl | decide +kernel) rfl (Nat.le_of_ble_eq_true rfl) ?_
  show AW mJ23_checkLength _ _ _ _ _ _ _ 0 [some (vI (nI a)), some (vI (nI b))] []
  refine r_iload_n (i := 1) dJ23_checkLength_0 rfl rfl ?_
  refine r_iload_n (i := 0) dJ23_checkLength_1 rfl rfl ?_
  refine r_icmp_ge (tgt := 37) dJ23_checkLength_2 (by decide) (fun h2 => ?_) (fun h2 => ?_)
  · refine r_return dJ23_checkLength_37 rfl ?_
    exact hQ
  · exact absurd (nI_le h (by omega)) h2
/-- a part of a builder's array, as a String's array -/
theorem s_copyRB {v c n f t : Nat} {cs : Nat → Nat} (hd : 2 ≤ d) (h : BA H 2109 v n cs) (hl : ln H v = c) (hn : n ≤ c) (hc : c < 1000) (hf : f ≤ t) (ht : t ≤ n) (hQ : ∀ H' q, kd H q = 0 → Ks (fun _ => False) H H' → BA H' 2113 q (t - f) (fun i => cs (f + i)) → ln H' q = t - f → Qr (some (vR (some q))) H') : AMet G d 1 (t - f) yJ23_copyOfRangeByte wJ23_copyOfRangeByte H [vR (some v), vI (nI f), vI (nI t)] Qr Qx := by
  obtain ⟨a5, a6⟩ := h
  have e1 : nI t - nI f = nI (t - f) := nI_sub hf
  have e2 : nI c - nI f = nI (c - f) := nI_sub (by omega)
  have em : (if nI (t - f) < nI (c - f) then nI (t - f) else nI (c - f)) = nI (t - f) := by
    by_cases hlt : t - f < c - f
    · rw [if_pos (nI_lt hlt (by omega))]
    · rw [show t - f = c - f by omega]
      split <;> rfl
  refine AMet.of (M := mJ23_copyOfRangeByte) (maxL := 5) (by first | rfl | decide +kernel) rfl (Nat.le_of_ble_eq_true rfl) ?_
  show AW mJ23_copyOfRangeByte _ _ _ _ _ _ _ 0 [some (vR (some v)), some (vI (nI f)), some (vI (nI t)), none, none] []
  refine r_iload_n (i := 1) dJ23_copyOfRangeByte_0 rfl rfl ?_
  refine r_iload_n (i := 2) dJ23_copyOfRangeByte_1 rfl rfl ?_
  refine r_callS (As := [_, _]) (mc' := 0) (ms' := 0) dJ23_copyOfRangeByte_2 k_J23_343 rfl (by first | assumption | omega) (by first | assumption | omega) (by first | assumption | omega) (Nat.le_of_ble_eq_true rfl) ?_
  refine s_chkLen hf (by omega) ?_
  show AW mJ23_copyOfRangeByte G d Qr Qx _ _ _ 5 _ _
  refine r_iload_n (i := 2) dJ23_copyOfRangeByte_5 rfl rfl ?_
  refine r_iload_n (i := 1) dJ23_copyOfRangeByte_6 rfl rfl ?_
  refine r_isub dJ23_copyOfRangeByte_7 ?_
  rw [e1]
  refine r_istore_n (i := 3) dJ23_copyOfRangeByte_8 rfl (Nat.le_of_ble_eq_true rfl) (by simp only [lset]; rfl) ?_
  refine r_iload_n (i := 3) dJ23_copyOfRangeByte_9 rfl rfl ?_
  refine r_new_byte 2113 dJ23_copyOfRangeByte_10 q302 (by decide) (by first | with_reducible rfl | assumption | (simp only [nI_add, pk_mul, nI_1]; with_reducible rfl)) (by first | assumption | omega) (by first | assumption | omega) (by first | assumption | omega) (fun q10 hq10 => ?_)
  have hqv : v ≠ q10 := fun h => by rw [h, hq10] at a5; cases a5
  refine AW.name (fun H1 hH1 => ?_)
  have k1 : kd H1 v = 2109 := by rw [hH1, kd_nA, if_neg hqv]; exact a5
  have k2 : kd H1 q10 = 2113 := by rw [hH1, kd_nA, if_pos rfl]
  have l1 : ln H1 v = c := by rw [hH1, ln_nA, if_neg hqv]; exact hl
  have l2 : ln H1 q10 = t - f := by rw [hH1, ln_nA, if_pos rfl]
  have g1 : gA H1 2109 v = gA H 2109 v := by rw [hH1, gA_nA, if_neg (fun h => hqv h.2)]
  refine r_astore dJ23_copyOfRangeByte_12 (Nat.le_of_ble_eq_true rfl) (by simp only [lset]; rfl) ?_
  refine r_aload_n (i := 0) dJ23_copyOfRangeByte_14 rfl rfl ?_
  refine r_iload_n (i := 1) dJ23_copyOfRangeByte_15 rfl rfl ?_
  refine r_aload dJ23_copyOfRangeByte_16 rfl ?_
  refine r_iconst (v := nI 0) dJ23_copyOfRangeByte_18 (by decide) ?_
  refine r_aload_n (i := 0) dJ23_copyOfRangeByte_19 rfl rfl ?_
  refine r_alen dJ23_copyOfRangeByte_20 (by first | (refine ⟨?_, ?_⟩ <;> simp [kd_sI, kd_sR, kd_sA, kd_sQ, kd_sL, kd_sD, ln_sI, ln_sR, ln_sA, ln_sQ, ln_sL, ln_sD, gI_sR, gI_sA, gI_sQ, gI_sL, gI_sD, gR_sI, gR_sA, gR_sQ, gR_sL, gR_sD, gA_sI, gA_sR, gA_sQ, gA_sL, gA_sD, gQ_sI, gQ_sR, gQ_sA, gQ_sL, gQ_sD, gL_sI, gL_sR, gL_sA, gL_sQ, gL_sD, *]; done) | omega) (by first | assumption | exact gI_sIs | exact gR_sRs | with_reducible rfl | (simp only [kd_sI, kd_sR, kd_sA, kd_sQ, kd_sL, kd_sD, ln_sI, ln_sR, ln_sA, ln_sQ, ln_sL, ln_sD, gI_sR, gI_sA, gI_sQ, gI_sL, gI_sD, gR_sI, gR_sA, gR_sQ, gR_sL, gR_sD, gA_sI, gA_sR, gA_sQ, gA_sL, gA_sD, gQ_sI, gQ_sR, gQ_sA, gQ_sL, gQ_sD, gL_sI, gL_sR, gL_sA, gL_sQ, gL_sD]; first | done | assumption | with_reducible rfl) | rfl) ?_
  refine r_iload_n (i := 1) dJ23_copyOfRangeByte_21 rfl rfl ?_
  refine r_isub dJ23_copyOfRangeByte_22 ?_
  rw [e2]
  refine r_iload_n (i := 3) dJ23_copyOfRangeByte_23 rfl rfl ?_
  refine r_mmin dJ23_copyOfRangeByte_24 q476 (by first | assumption | omega) (Nat.le_of_ble_eq_true rfl) ?_
  rw [em]
  refine r_copy_byte dJ23_copyOfRangeByte_27 q479 (by first | assumption | (simp only [kd_sI, kd_sR, kd_sA, kd_sQ, kd_sL, kd_sD, ln_sI, ln_sR, ln_sA, ln_sQ, ln_sL, ln_sD, gI_sR, gI_sA, gI_sQ, gI_sL, gI_sD, gR_sI, gR_sA, gR_sQ, gR_sL, gR_sD, gA_sI, gA_sR, gA_sQ, gA_sL, gA_sD, gQ_sI, gQ_sR, gQ_sA, gQ_sL, gQ_sD, gL_sI, gL_sR, gL_sA, gL_sQ, gL_sD]; assumption) | simp [kd_sI, kd_sR, kd_sA, kd_sQ, kd_sL, kd_sD, ln_sI, ln_sR, ln_sA, ln_sQ, ln_sL, ln_sD, gI_sR, gI_sA, gI_sQ, gI_sL, gI_sD, gR_sI, gR_sA, gR_sQ, gR_sL, gR_sD, gA_sI, gA_sR, gA_sQ, gA_sL, gA_sD, gQ_sI, gQ_sR, gQ_sA, gQ_sL, gQ_sD, gL_sI, gL_sR, gL_sA, gL_sQ, gL_sD, kd_nO, kd_nA, *]) (by first | decide | assumption) (by first | assumption | (simp only [kd_sI, kd_sR, kd_sA, kd_sQ, kd_sL, kd_sD, ln_sI, ln_sR, ln_sA, ln_sQ, ln_sL, ln_sD, gI_sR, gI_sA, gI_sQ, gI_sL, gI_sD, gR_sI, gR_sA, gR_sQ, gR_sL, gR_sD, gA_sI, gA_sR, gA_sQ, gA_sL, gA_sD, gQ_sI, gQ_sR, gQ_sA, gQ_sL, gQ_sD, gL_sI, gL_sR, gL_sA, gL_sQ, gL_sD]; assumption) | simp [kd_sI, kd_sR, kd_sA, kd_sQ, kd_sL, kd_sD, ln_sI, ln_sR, ln_sA, ln_sQ, ln_sL, ln_sD, gI_sR, gI_sA, gI_sQ, gI_sL, gI_sD, gR_sI, gR_sA, gR_sQ, gR_sL, gR_sD, gA_sI, gA_sR, gA_sQ, gA_sL, gA_sD, gQ_sI, gQ_sR, gQ_sA, gQ_sL, gQ_sD, gL_sI, gL_sR, gL_sA, gL_sQ, gL_sD, kd_nO, kd_nA, *]) (by first | decide | assumption) (by first | assumption | exact gI_sIs | exact gR_sRs | with_reducible rfl | (simp only [kd_sI, kd_sR, kd_sA, kd_sQ, kd_sL, kd_sD, ln_sI, ln_sR, ln_sA, ln_sQ, ln_sL, ln_sD, gI_sR, gI_sA, gI_sQ, gI_sL, gI_sD, gR_sI, gR_sA, gR_sQ, gR_sL, gR_sD, gA_sI, gA_sR, gA_sQ, gA_sL, gA_sD, gQ_sI, gQ_sR, gQ_sA, gQ_sL, gQ_sD, gL_sI, gL_sR, gL_sA, gL_sQ, gL_sD]; first | done | assumption | with_reducible rfl) | rfl) (by first | assumption | exact gI_sIs | exact gR_sRs | with_reducible rfl | (simp only [kd_sI, kd_sR, kd_sA, kd_sQ, kd_sL, kd_sD, ln_sI, ln_sR, ln_sA, ln_sQ, ln_sL, ln_sD, gI_sR, gI_sA, gI_sQ, gI_sL, gI_sD, gR_sI, gR_sA, gR_sQ, gR_sL, gR_sD, gA_sI, gA_sR, gA_sQ, gA_sL, gA_sD, gQ_sI, gQ_sR, gQ_sA, gQ_sL, gQ_sD, gL_sI, gL_sR, gL_sA, gL_sQ, gL_sD]; first | done | assumption | with_reducible rfl) | rfl) (by first | with_reducible rfl | assumption | (simp only [nI_add, pk_mul, nI_1]; with_reducible rfl)) (by first | with_reducible rfl | assumption | (simp only [nI_add, pk_mul, nI_1]; with_reducible rfl)) (by first | with_reducible rfl | assumption | (simp only [nI_add, pk_mul, nI_1]; with_reducible rfl)) (by first | assumption | omega) (by first | assumption | omega) (by first | assumption | omega) (by first | assumption | omega) ?_ (by first | assumption | omega) (Nat.le_of_ble_eq_true rfl) ?_
  · intro x hx
    rw [g1, (a6 (f + x) (by omega)).1]
    exact cd_fit _ (a6 (f + x) (by omega)).2
  · refine r_aload dJ23_copyOfRangeByte_30 rfl ?_
    refine r_areturn dJ23_copyOfRangeByte_32 rfl (by first | exact Or.inl ⟨_, rfl⟩ | exact Or.inr ⟨_, rfl⟩) ?_
    refine hQ _ q10 hq10 ?_ ⟨k2, fun i hi => ?_⟩ l2
    · rw [hH1]
      exact (Ks.rf.nA hq10).sA (fun h => absurd hq10 h)
    · rw [gA_sAs]
      have e8 := va_cpy_in (gA H1 2109 v) (gA H1 2113 q10) f 0 (t - f) i hi
      rw [Nat.zero_add] at e8
      rw [e8, g1]
      exact a6 (f + i) (by omega)
theorem s_copyR {v c n f t : Nat} {cs : Nat → Nat} (hd : 3 ≤ d) (h : BA H 2109 v n cs) (hl : ln H v = c) (hn : n ≤ c) (hc : c < 1000) (hf : f ≤ t) (ht : t ≤ n) (hQ : ∀ H' q, kd H q = 0 → Ks (fun _ => False) H H' → BA H' 2113 q (t - f) (fun i => cs (f + i)) → ln H' q = t - f → Qr (some (vR (some q))) H') : AMet G d 1 (t - f) yJ23_copyOfRange wJ23_copyOfRange H [vR (some v), vI (nI f), vI (nI t)] Qr Qx := by
  have a5 := h.1
  refine AMet.of (M := mJ23_copyOfRange) (maxL := 3) (by first | rfl | decide +kernel) rfl (Nat.le_of_ble_eq_true rfl) ?_
  show AW mJ23_copyOfRange _ _ _ _ _ _ _ 0 [some (vR (some v)), some (vI (nI f)), some (vI (nI t))] []
  have go : AW mJ23_copyOfRange G d Qr Qx 1 (t - f) H 10 [some (vR (some v)), some (vI (nI f)), some (vI (nI t))] [] := by
    refine r_aload_n (i := 0) dJ23_copyOfRange_10 rfl rfl ?_
    refine r_iload_n (i := 1) dJ23_copyOfRange_11 rfl rfl ?_
    refine r_iload_n (i := 2) dJ23_copyOfRange_12 rfl rfl ?_
    refine r_callS (As := [_, _, _]) (mc' := 1) (ms' := (t - f)) dJ23_copyOfRange_13 k_J23_339 rfl (by first | assumption | omega) (by first | assumption | omega) (by first | assumption | omega) (Nat.le_of_ble_eq_true rfl) ?_
    refine s_copyRB (by omega) h hl hn hc hf ht (fun H' q h1 h2 h3 h4 => ?_)
    show AW mJ23_copyOfRange G d Qr Qx _ _ _ 16 _ _
    refine r_areturn dJ23_copyOfRange_16 rfl (by first | exact Or.inl ⟨_, rfl⟩ | exact Or.inr ⟨_, rfl⟩) ?_
    exact hQ H' q h1 h2 h3 h4
  refine r_iload_n (i := 1) dJ23_copyOfRange_0 rfl rfl ?_
  refine r_if_ne (tgt := 10) dJ23_copyOfRange_1 (by decide) (fun h1 => ?_) (fun h1 => ?_)
  · exact go
  · have hf0 : f = 0 := Classical.byContradiction fun q => nI_ne0 (by omega) (by omega) h1
    subst hf0
    refine r_iload_n (i := 2) dJ23_copyOfRange_4 rfl rfl ?_
    refine r_aload_n (i := 0) dJ23_copyOfRange_5 rfl rfl ?_
    refine r_alen dJ23_copyOfRange_6 (by first | (refine ⟨?_, ?_⟩ <;> simp [kd_sI, kd_sR, kd_sA, kd_sQ, kd_sL, kd_sD, ln_sI, ln_sR, ln_sA, ln_sQ, ln_sL, ln_sD, gI_sR, gI_sA, gI_sQ, gI_sL, gI_sD, gR_sI, gR_sA, gR_sQ, gR_sL, gR_sD, gA_sI, gA_sR, gA_sQ, gA_sL, gA_sD, gQ_sI, gQ_sR, gQ_sA, gQ_sL, gQ_sD, gL_sI, gL_sR, gL_sA, gL_sQ, gL_sD, *]; done) | omega) (by first | assumption | exact gI_sIs | exact gR_sRs | with_reducible rfl | (simp only [kd_sI, kd_sR, kd_sA, kd_sQ, kd_sL, kd_sD, ln_sI, ln_sR, ln_sA, ln_sQ, ln_sL, ln_sD, gI_sR, gI_sA, gI_sQ, gI_sL, gI_sD, gR_sI, gR_sA, gR_sQ, gR_sL, gR_sD, gA_sI, gA_sR, gA_sQ, gA_sL, gA_sD, gQ_sI, gQ_sR, gQ_sA, gQ_sL, gQ_sD, gL_sI, gL_sR, gL_sA, gL_sQ, gL_sD]; first | done | assumption | with_reducible rfl) | rfl) ?_
    refine r_icmp_eq (tgt := 17) dJ23_copyOfRange_7 (by decide) (fun h7 => ?_) (fun h7 => ?_)
    · have htc : t = c := Classical.byContradiction fun q => nI_ne q (by omega) (by omega) h7
      have hnc : n = c := by omega
      subst hnc
      subst htc
      refine r_aload_n (i := 0) dJ23_copyOfRange_17 rfl rfl ?_
      refine r_clone_byte 2113 dJ23_copyOfRange_18 q469 (by first | assumption | (simp only [kd_sI, kd_sR, kd_sA, kd_sQ, kd_sL, kd_sD, ln_sI, ln_sR, ln_sA, ln_sQ, ln_sL, ln_sD, gI_sR, gI_sA, gI_sQ, gI_sL, gI_sD, gR_sI, gR_sA, gR_sQ, gR_sL, gR_sD, gA_sI, gA_sR, gA_sQ, gA_sL, gA_sD, gQ_sI, gQ_sR, gQ_sA, gQ_sL, gQ_sD, gL_sI, gL_sR, gL_sA, gL_sQ, gL_sD]; assumption) | simp [kd_sI, kd_sR, kd_sA, kd_sQ, kd_sL, kd_sD, ln_sI, ln_sR, ln_sA, ln_sQ, ln_sL, ln_sD, gI_sR, gI_sA, gI_sQ, gI_sL, gI_sD, gR_sI, gR_sA, gR_sQ, gR_sL, gR_sD, gA_sI, gA_sR, gA_sQ, gA_sL, gA_sD, gQ_sI, gQ_sR, gQ_sA, gQ_sL, gQ_sD, gL_sI, gL_sR, gL_sA, gL_sQ, gL_sD, kd_nO, kd_nA, *]) (by first | decide | assumption) (by decide) (by first | assumption | exact gI_sIs | exact gR_sRs | with_reducible rfl | (simp only [kd_sI, kd_sR, kd_sA, kd_sQ, kd_sL, kd_sD, ln_sI, ln_sR, ln_sA, ln_sQ, ln_sL, ln_sD, gI_sR, gI_sA, gI_sQ, gI_sL, gI_sD, gR_sI, gR_sA, gR_sQ, gR_sL, gR_sD, gA_sI, gA_sR, gA_sQ, gA_sL, gA_sD, gQ_sI, gQ_sR, gQ_sA, gQ_sL, gQ_sD, gL_sI, gL_sR, gL_sA, gL_sQ, gL_sD]; first | done | assumption | with_reducible rfl) | rfl) ?_ (by first | assumption | omega) (by first | assumption | omega) (by first | assumption | omega) (Nat.le_of_ble_eq_true rfl) (fun q18 hq18 => ?_)
      · intro x hx
        rw [(h.2 x hx).1]
        exact cd_fit _ (h.2 x hx).2
      · have k1 : kd (sA (nA H q18 2113 t) 2113 q18 (gA H 2109 v)) q18 = 2113 := by rw [kd_sA, kd_nA, if_pos rfl]
        refine r_cast_byte dJ23_copyOfRange_21 q475 (by first | assumption | (simp only [kd_sI, kd_sR, kd_sA, kd_sQ, kd_sL, kd_sD, ln_sI, ln_sR, ln_sA, ln_sQ, ln_sL, ln_sD, gI_sR, gI_sA, gI_sQ, gI_sL, gI_sD, gR_sI, gR_sA, gR_sQ, gR_sL, gR_sD, gA_sI, gA_sR, gA_sQ, gA_sL, gA_sD, gQ_sI, gQ_sR, gQ_sA, gQ_sL, gQ_sD, gL_sI, gL_sR, gL_sA, gL_sQ, gL_sD]; assumption) | simp [kd_sI, kd_sR, kd_sA, kd_sQ, kd_sL, kd_sD, ln_sI, ln_sR, ln_sA, ln_sQ, ln_sL, ln_sD, gI_sR, gI_sA, gI_sQ, gI_sL, gI_sD, gR_sI, gR_sA, gR_sQ, gR_sL, gR_sD, gA_sI, gA_sR, gA_sQ, gA_sL, gA_sD, gQ_sI, gQ_sR, gQ_sA, gQ_sL, gQ_sD, gL_sI, gL_sR, gL_sA, gL_sQ, gL_sD, kd_nO, kd_nA, *]) (by first | decide | assumption) ?_
        refine r_areturn dJ23_copyOfRange_24 rfl (by first | exact Or.inl ⟨_, rfl⟩ | exact Or.inr ⟨_, rfl⟩) ?_
        refine hQ _ q18 hq18 ((Ks.rf.nA hq18).sA (fun h => absurd hq18 h)) ⟨k1, fun i hi => ?_⟩ ?_
        · rw [gA_sAs]
          show gA H 2109 v i = nI (cs (0 + i)) ∧ cs (0 + i) < 128
          rw [Nat.zero_add]
          exact h.2 i (by omega)
        · rw [ln_sA, ln_nA, if_pos rfl]
          rfl
    · exact go
theorem s_strInit3 {a v : Nat} (hd : 1 ≤ d) (hk : kd H a = 24) (hQ : Qr none (sI (sR H 113 a (some v)) 114 a (nI 0))) : AMet G d 0 0 yJ8_init_3 wJ8_init_3 H [vR (some a), vR (some v), vI (nI 0)] Qr Qx := by
  refine AMet.of (M := mJ8_init_3) (maxL := 3) (by first | rfl | decide +kernel) rfl (Nat.le_of_ble_eq_true rfl) ?_
  show AW mJ8_init_3 _ _ _ _ _ _ _ 0 [some (vR (some a)), some (vR (some v)), some (vI (nI 0))] []
  refine r_aload_n (i := 0) dJ8_init_3_0 rfl rfl ?_
  refine r_objInit dJ8_init_3_1 q358 (by with_reducible rfl) (by first | assumption | omega) (Nat.le_of_ble_eq_true rfl) ?_
  refine r_aload_n (i := 0) dJ8_init_3_4 rfl rfl ?_
  refine r_aload_n (i := 1) dJ8_init_3_5 rfl rfl ?_
  refine r_putR dJ8_init_3_6 fG_J8_9 (fun _ => by first | rfl | contradiction) (by first | assumption | (simp only [kd_sI, kd_sR, kd_sA, kd_sQ, kd_sL, kd_sD, ln_sI, ln_sR, ln_sA, ln_sQ, ln_sL, ln_sD, gI_sR, gI_sA, gI_sQ, gI_sL, gI_sD, gR_sI, gR_sA, gR_sQ, gR_sL, gR_sD, gA_sI, gA_sR, gA_sQ, gA_sL, gA_sD, gQ_sI, gQ_sR, gQ_sA, gQ_sL, gQ_sD, gL_sI, gL_sR, gL_sA, gL_sQ, gL_sD]; assumption) | simp [kd_sI, kd_sR, kd_sA, kd_sQ, kd_sL, kd_sD, ln_sI, ln_sR, ln_sA, ln_sQ, ln_sL, ln_sD, gI_sR, gI_sA, gI_sQ, gI_sL, gI_sD, gR_sI, gR_sA, gR_sQ, gR_sL, gR_sD, gA_sI, gA_sR, gA_sQ, gA_sL, gA_sD, gQ_sI, gQ_sR, gQ_sA, gQ_sL, gQ_sD, gL_sI, gL_sR, gL_sA, gL_sQ, gL_sD, kd_nO, kd_nA, *]) (by first | exact Or.inl ⟨_, rfl⟩ | exact Or.inr ⟨_, rfl⟩) ?_
  refine r_aload_n (i := 0) dJ8_init_3_9 rfl rfl ?_
  refine r_iload_n (i := 2) dJ8_init_3_10 rfl rfl ?_
  refine r_putI dJ8_init_3_11 fG_J8_15 (fun _ => by first | rfl | contradiction) (by first | assumption | (simp only [kd_sI, kd_sR, kd_sA, kd_sQ, kd_sL, kd_sD, ln_sI, ln_sR, ln_sA, ln_sQ, ln_sL, ln_sD, gI_sR, gI_sA, gI_sQ, gI_sL, gI_sD, gR_sI, gR_sA, gR_sQ, gR_sL, gR_sD, gA_sI, gA_sR, gA_sQ, gA_sL, gA_sD, gQ_sI, gQ_sR, gQ_sA, gQ_sL, gQ_sD, gL_sI, gL_sR, gL_sA, gL_sQ, gL_sD]; assumption) | simp [kd_sI, kd_sR, kd_sA, kd_sQ, kd_sL, kd_sD, ln_sI, ln_sR, ln_sA, ln_sQ, ln_sL, ln_sD, gI_sR, gI_sA, gI_sQ, gI_sL, gI_sD, gR_sI, gR_sA, gR_sQ, gR_sL, gR_sD, gA_sI, gA_sR, gA_sQ, gA_sL, gA_sD, gQ_sI, gQ_sR, gQ_sA, gQ_sL, gQ_sD, gL_sI, gL_sR, gL_sA, gL_sQ, gL_sD, kd_nO, kd_nA, *]) (by first | rfl | assumption) (by first | rfl | assumption) ?_
  refine r_return dJ8_init_3_14 rfl ?_
  exact hQ
/-- a new String of a part of a builder's codes -/
theorem s_newString {v c n f k : Nat} {cs : Nat → Nat} (hd : 4 ≤ d) (h : BA H 2109 v n cs) (hl : ln H v = c) (hn : n ≤ c) (hc : c < 1000) (hk0 : 0 < k) (hk : f + k ≤ n) (hQ : ∀ H' q, kd H q = 0 → Ks (fun _ => False) H H' → ST H' q k (fun i => cs (f + i)) → gI H' 115 q = 0 → Qr (some (vR (some q))) H') : AMet G d 2 (k + 4) yJ20_newString wJ20_newString H [vR (some v), vI (nI f), vI (nI k)] Qr Qx := by
  have a5 := h.1
  refine AMet.of (M := mJ20_newString) (maxL := 3) (by first | rfl | decide +kernel) rfl (Nat.le_of_ble_eq_true rfl) ?_
  show AW mJ20_newString _ _ _ _ _ _ _ 0 [some (vR (some v)), some (vI (nI f)), some (vI (nI k))] []
  refine r_iload_n (i := 2) dJ20_newString_0 rfl rfl ?_
  refine r_if_ne (tgt := 7) dJ20_newString_1 (by decide) (fun h1 => ?_) (fun h1 => ?_)
  · refine r_new dJ20_newString_7 cT_J8 q2586 q351 q93 (by decide +kernel) (by first | assumption | omega) (by first | assumption | omega) (fun q7 hq7 => ?_)
    refine r_dup dJ20_newString_10 rfl ?_
    refine r_aload_n (i := 0) dJ20_newString_11 rfl rfl ?_
    refine r_iload_n (i := 1) dJ20_newString_12 rfl rfl ?_
    refine r_iload_n (i := 1) dJ20_newString_13 rfl rfl ?_
    refine r_iload_n (i := 2) dJ20_newString_14 rfl rfl ?_
    have hqv : v ≠ q7 := fun h => by rw [h, hq7] at a5; cases a5
    refine AW.name (fun H1 hH1 => ?_)
    have hK1 : Ks (fun _ => False) H H1 := by rw [hH1]; exact Ks.rf.nO hq7
    have e0 := hK1.at (a := v) (by rw [a5]; decide) (fun h => h)
    have hB1 : BA H1 2109 v n cs := ⟨by rw [at_kd e0]; exact a5, fun i hi => by rw [at_gA e0]; exact h.2 i hi⟩
    have hl1 : ln H1 v = c := by rw [at_ln e0]; exact hl
    have k7 : kd H1 q7 = 24 := by rw [hH1, kd_nO, if_pos rfl]
    have z1 : gI H1 115 q7 = 0 := by rw [hH1, gI_nO, if_pos rfl]
    have z2 : gI H1 116 q7 = 0 := by rw [hH1, gI_nO, if_pos rfl]
    refine r_iadd dJ20_newString_15 ?_
    try simp only [nI_add]
    refine r_callS (As := [_, _, _]) (mc' := 1) (ms' := (f + k - f)) dJ20_newString_16 k_J20_232 rfl (by first | assumption | omega) (by first | assumption | omega) (by first | assumption | omega) (Nat.le_of_ble_eq_true rfl) ?_
    refine s_copyR (by omega) hB1 hl1 hn hc (by omega) hk (fun H2 q2 hq2 hK2 hB2 hl2 => ?_)
    have e9 := hK2.at (a := q7) (by rw [k7]; decide) (fun h => h)
    have k72 : kd H2 q7 = 24 := by rw [at_kd e9]; exact k7
    have hne : ¬ q2 = q7 := fun h => by rw [h] at hq2; rw [k7] at hq2; cases hq2
    show AW mJ20_newString G d Qr Qx _ _ _ 19 _ _
    refine r_iconst (v := nI 0) dJ20_newString_19 (by decide) ?_
    refine r_callI (As := [_, _]) (mc' := 0) (ms' := 0) dJ20_newString_20 k_J20_112 rfl (by first | assumption | omega) (by first | assumption | omega) (by first | assumption | omega) (Nat.le_of_ble_eq_true rfl) ?_
    refine s_strInit3 (by omega) k72 ?_
    show AW mJ20_newString G d Qr Qx _ _ _ 23 _ _
    refine r_areturn dJ20_newString_23 rfl (by first | exact Or.inl ⟨_, rfl⟩ | exact Or.inr ⟨_, rfl⟩) ?_
    have hK3 : Ks (fun _ => False) H (sI (sR H2 113 q7 (some q2)) 114 q7 (nI 0)) := ((hK1.tr hK2).sR (fun h => absurd hq7 h)).sI (fun h => absurd hq7 h)
    rw [show f + k - f = k by omega] at hB2 hl2
    have y1 : gI (sI (sR H2 113 q7 (some q2)) 114 q7 (nI 0)) 115 q7 = 0 := by
      rw [gI_sIn (by decide)]
      show gI H2 115 q7 = 0
      rw [at_gI e9]
      exact z1
    have y2 : gI (sI (sR H2 113 q7 (some q2)) 114 q7 (nI 0)) 116 q7 = 0 := by
      rw [gI_sIn (by decide)]
      show gI H2 116 q7 = 0
      rw [at_gI e9]
      exact z2
    exact hQ _ q7 hq7 hK3 ⟨k72, gI_sIs, by omega, ⟨q2, gR_sRs, hB2, hl2⟩, Or.inr ⟨y1, y2⟩⟩ y1
  · exact absurd h1 (nI_ne0 hk0 (by omega))
end Mis
