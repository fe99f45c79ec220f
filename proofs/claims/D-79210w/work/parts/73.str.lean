set_option maxRecDepth 100000
/-! STRINGS of codes below 128 -/
section Str
variable {G : Gl} {d : Nat} {Qr : Option AV → AH → Prop} {Qx : String → Nat → AH → Prop} {H : AH}
/-- the hash of the first m codes -/
def hsh (cs : Nat → Nat) : Nat → Int32
  | 0 => nI 0
  | m + 1 => nI 31 * hsh cs m + nI (cs m)
theorem hsh_eq {cs cs' : Nat → Nat} {m : Nat} (h : ∀ i, i < m → cs i = cs' i) : hsh cs m = hsh cs' m := by
  induction m with
  | zero => rfl
  | succ m ih => rw [hsh, hsh, ih (fun i hi => h i (by omega)), h m (by omega)]
/-- a byte array of codes -/
def BA (H : AH) (k v m : Nat) (cs : Nat → Nat) : Prop := kd H v = k ∧ (∀ i, i < m → gA H k v i = nI (cs i) ∧ cs i < 128)
/-- a String a of m codes cs, its hash asked for (b) or perhaps not -/
def ST (H : AH) (a m : Nat) (cs : Nat → Nat) : Prop := kd H a = 24 ∧ gI H 114 a = nI 0 ∧ m < 1000 ∧ (∃ v, gR H 113 a = some v ∧ BA H 2113 v m cs ∧ ln H v = m) ∧ (gI H 115 a = hsh cs m ∨ (gI H 115 a = 0 ∧ gI H 116 a = 0))
theorem ST.ks {H' : AH} {S : Nat → Prop} {a m : Nat} {cs : Nat → Nat} (h : ST H a m cs) (hk : Ks S H H') (h1 : ¬ S a) (h2 : ∀ v, kd H v = 2113 → ¬ S v) : ST H' a m cs := by
  obtain ⟨a1, a2, a3, ⟨v, a4, ⟨a5, a6⟩, a7⟩, a8⟩ := h
  have e1 := hk.at (a := a) (by rw [a1]; decide) h1
  have e2 := hk.at (a := v) (by rw [a5]; decide) (h2 v a5)
  exact ⟨by rw [at_kd e1]; exact a1, by rw [at_gI e1]; exact a2, a3, ⟨v, by rw [at_gR e1]; exact a4, ⟨by rw [at_kd e2]; exact a5, fun i hi => by rw [at_gA e2]; exact a6 i hi⟩, by rw [at_ln e2]; exact a7⟩, by rw [at_gI e1, at_gI e1]; exact a8⟩
theorem cd255 : ∀ c, c < 128 → (nI c &&& nI 255) = nI c := by decide
theorem cd_i2c : ∀ c, c < 128 → ((nI c &&& nI 255).toUInt32 % 65536).toInt32 = nI c := by decide
theorem cd_nch : ∀ c, c < 128 → narrow .char (.int (nI c)) = .int (nI c) := by decide
theorem shr0 (x : Int32) : x >>> (nI 0 &&& 31) = x := by
  rw [show (nI 0 &&& 31 : Int32) = 0 by decide]
  exact Int32.shiftRight_zero
theorem s_strCoder {a : Nat} (h1 : kd H a = 24) (h2 : gI H 114 a = nI 0) (hQ : Qr (some (vI (nI 0))) H) : AMet G d 0 0 yJ8_coder wJ8_coder H [vR (some a)] Qr Qx := by
  refine AMet.of (M := mJ8_coder) (maxL := 1) (by first | rfl | decide +kernel) rfl (Nat.le_of_ble_eq_true rfl) ?_
  show AW mJ8_coder _ _ _ _ _ _ _ 0 [some (vR (some a))] []
  refine r_gs_compact dJ8_coder_0 (Or.inl q544) ?_
  refine r_if_eq (tgt := 13) dJ8_coder_3 (by decide) (fun h3 => ?_) (fun h3 => ?_)
  · exact absurd h3 (by decide)
  · refine r_aload_n (i := 0) dJ8_coder_6 rfl rfl ?_
    refine r_getI dJ8_coder_7 fR_J8_15 (by first | assumption | (simp only [kd_sI, kd_sR, kd_sA, kd_sQ, kd_sL, kd_sD, ln_sI, ln_sR, ln_sA, ln_sQ, ln_sL, ln_sD, gI_sR, gI_sA, gI_sQ, gI_sL, gI_sD, gR_sI, gR_sA, gR_sQ, gR_sL, gR_sD, gA_sI, gA_sR, gA_sQ, gA_sL, gA_sD, gQ_sI, gQ_sR, gQ_sA, gQ_sL, gQ_sD, gL_sI, gL_sR, gL_sA, gL_sQ, gL_sD]; assumption) | simp [kd_sI, kd_sR, kd_sA, kd_sQ, kd_sL, kd_sD, ln_sI, ln_sR, ln_sA, ln_sQ, ln_sL, ln_sD, gI_sR, gI_sA, gI_sQ, gI_sL, gI_sD, gR_sI, gR_sA, gR_sQ, gR_sL, gR_sD, gA_sI, gA_sR, gA_sQ, gA_sL, gA_sD, gQ_sI, gQ_sR, gQ_sA, gQ_sL, gQ_sD, gL_sI, gL_sR, gL_sA, gL_sQ, gL_sD, kd_nO, kd_nA, *]) (by first | assumption | exact gI_sIs | exact gR_sRs | with_reducible rfl | (simp only [kd_sI, kd_sR, kd_sA, kd_sQ, kd_sL, kd_sD, ln_sI, ln_sR, ln_sA, ln_sQ, ln_sL, ln_sD, gI_sR, gI_sA, gI_sQ, gI_sL, gI_sD, gR_sI, gR_sA, gR_sQ, gR_sL, gR_sD, gA_sI, gA_sR, gA_sQ, gA_sL, gA_sD, gQ_sI, gQ_sR, gQ_sA, gQ_sL, gQ_sD, gL_sI, gL_sR, gL_sA, gL_sQ, gL_sD]; first | done | assumption | with_reducible rfl) | rfl) ?_
    refine r_goto (tgt := 14) dJ8_coder_10 (by decide) ?_
    refine r_ireturn dJ8_coder_14 rfl (by first | rfl | assumption | exact vp_nar_int _ | exact pk_nc _) ?_
    exact hQ
theorem s_strLatin {a : Nat} (h1 : kd H a = 24) (h2 : gI H 114 a = nI 0) (hQ : Qr (some (vI (nI 1))) H) : AMet G d 0 0 yJ8_isLatin1 wJ8_isLatin1 H [vR (some a)] Qr Qx := by
  refine AMet.of (M := mJ8_isLatin1) (maxL := 1) (by first | rfl | decide +kernel) rfl (Nat.le_of_ble_eq_true rfl) ?_
  show AW mJ8_isLatin1 _ _ _ _ _ _ _ 0 [some (vR (some a))] []
  refine r_gs_compact dJ8_isLatin1_0 (Or.inl q544) ?_
  refine r_if_eq (tgt := 17) dJ8_isLatin1_3 (by decide) (fun h3 => ?_) (fun h3 => ?_)
  · exact absurd h3 (by decide)
  · refine r_aload_n (i := 0) dJ8_isLatin1_6 rfl rfl ?_
    refine r_getI dJ8_isLatin1_7 fR_J8_15 (by first | assumption | (simp only [kd_sI, kd_sR, kd_sA, kd_sQ, kd_sL, kd_sD, ln_sI, ln_sR, ln_sA, ln_sQ, ln_sL, ln_sD, gI_sR, gI_sA, gI_sQ, gI_sL, gI_sD, gR_sI, gR_sA, gR_sQ, gR_sL, gR_sD, gA_sI, gA_sR, gA_sQ, gA_sL, gA_sD, gQ_sI, gQ_sR, gQ_sA, gQ_sL, gQ_sD, gL_sI, gL_sR, gL_sA, gL_sQ, gL_sD]; assumption) | simp [kd_sI, kd_sR, kd_sA, kd_sQ, kd_sL, kd_sD, ln_sI, ln_sR, ln_sA, ln_sQ, ln_sL, ln_sD, gI_sR, gI_sA, gI_sQ, gI_sL, gI_sD, gR_sI, gR_sA, gR_sQ, gR_sL, gR_sD, gA_sI, gA_sR, gA_sQ, gA_sL, gA_sD, gQ_sI, gQ_sR, gQ_sA, gQ_sL, gQ_sD, gL_sI, gL_sR, gL_sA, gL_sQ, gL_sD, kd_nO, kd_nA, *]) (by first | assumption | exact gI_sIs | exact gR_sRs | with_reducible rfl | (simp only [kd_sI, kd_sR, kd_sA, kd_sQ, kd_sL, kd_sD, ln_sI, ln_sR, ln_sA, ln_sQ, ln_sL, ln_sD, gI_sR, gI_sA, gI_sQ, gI_sL, gI_sD, gR_sI, gR_sA, gR_sQ, gR_sL, gR_sD, gA_sI, gA_sR, gA_sQ, gA_sL, gA_sD, gQ_sI, gQ_sR, gQ_sA, gQ_sL, gQ_sD, gL_sI, gL_sR, gL_sA, gL_sQ, gL_sD]; first | done | assumption | with_reducible rfl) | rfl) ?_
    refine r_if_ne (tgt := 17) dJ8_isLatin1_10 (by decide) (fun h10 => ?_) (fun h10 => ?_)
    · exact absurd rfl h10
    · refine r_iconst (v := nI 1) dJ8_isLatin1_13 (by decide) ?_
      refine r_goto (tgt := 18) dJ8_isLatin1_14 (by decide) ?_
      refine r_ireturn dJ8_isLatin1_18 rfl (by first | rfl | assumption | exact vp_nar_int _ | exact pk_nc _) ?_
      exact hQ
theorem s_strLength {a m : Nat} {cs : Nat → Nat} (hd : 1 ≤ d) (h : ST H a m cs) (hQ : Qr (some (vI (nI m))) H) : AMet G d 0 0 yJ8_length wJ8_length H [vR (some a)] Qr Qx := by
  obtain ⟨a1, a2, a3, ⟨v, a4, ⟨a5, a6⟩, a7⟩, a8⟩ := h
  refine AMet.of (M := mJ8_length) (maxL := 1) (by first | rfl | decide +kernel) rfl (Nat.le_of_ble_eq_true rfl) ?_
  show AW mJ8_length _ _ _ _ _ _ _ 0 [some (vR (some a))] []
  refine r_aload_n (i := 0) dJ8_length_0 rfl rfl ?_
  refine r_getR dJ8_length_1 fR_J8_9 (by first | assumption | (simp only [kd_sI, kd_sR, kd_sA, kd_sQ, kd_sL, kd_sD, ln_sI, ln_sR, ln_sA, ln_sQ, ln_sL, ln_sD, gI_sR, gI_sA, gI_sQ, gI_sL, gI_sD, gR_sI, gR_sA, gR_sQ, gR_sL, gR_sD, gA_sI, gA_sR, gA_sQ, gA_sL, gA_sD, gQ_sI, gQ_sR, gQ_sA, gQ_sL, gQ_sD, gL_sI, gL_sR, gL_sA, gL_sQ, gL_sD]; assumption) | simp [kd_sI, kd_sR, kd_sA, kd_sQ, kd_sL, kd_sD, ln_sI, ln_sR, ln_sA, ln_sQ, ln_sL, ln_sD, gI_sR, gI_sA, gI_sQ, gI_sL, gI_sD, gR_sI, gR_sA, gR_sQ, gR_sL, gR_sD, gA_sI, gA_sR, gA_sQ, gA_sL, gA_sD, gQ_sI, gQ_sR, gQ_sA, gQ_sL, gQ_sD, gL_sI, gL_sR, gL_sA, gL_sQ, gL_sD, kd_nO, kd_nA, *]) (by first | assumption | exact gI_sIs | exact gR_sRs | with_reducible rfl | (simp only [kd_sI, kd_sR, kd_sA, kd_sQ, kd_sL, kd_sD, ln_sI, ln_sR, ln_sA, ln_sQ, ln_sL, ln_sD, gI_sR, gI_sA, gI_sQ, gI_sL, gI_sD, gR_sI, gR_sA, gR_sQ, gR_sL, gR_sD, gA_sI, gA_sR, gA_sQ, gA_sL, gA_sD, gQ_sI, gQ_sR, gQ_sA, gQ_sL, gQ_sD, gL_sI, gL_sR, gL_sA, gL_sQ, gL_sD]; first | done | assumption | with_reducible rfl) | rfl) ?_
  refine r_alen dJ8_length_4 (by first | (refine ⟨?_, ?_⟩ <;> simp [kd_sI, kd_sR, kd_sA, kd_sQ, kd_sL, kd_sD, ln_sI, ln_sR, ln_sA, ln_sQ, ln_sL, ln_sD, gI_sR, gI_sA, gI_sQ, gI_sL, gI_sD, gR_sI, gR_sA, gR_sQ, gR_sL, gR_sD, gA_sI, gA_sR, gA_sQ, gA_sL, gA_sD, gQ_sI, gQ_sR, gQ_sA, gQ_sL, gQ_sD, gL_sI, gL_sR, gL_sA, gL_sQ, gL_sD, *]; done) | omega) (by first | assumption | exact gI_sIs | exact gR_sRs | with_reducible rfl | (simp only [kd_sI, kd_sR, kd_sA, kd_sQ, kd_sL, kd_sD, ln_sI, ln_sR, ln_sA, ln_sQ, ln_sL, ln_sD, gI_sR, gI_sA, gI_sQ, gI_sL, gI_sD, gR_sI, gR_sA, gR_sQ, gR_sL, gR_sD, gA_sI, gA_sR, gA_sQ, gA_sL, gA_sD, gQ_sI, gQ_sR, gQ_sA, gQ_sL, gQ_sD, gL_sI, gL_sR, gL_sA, gL_sQ, gL_sD]; first | done | assumption | with_reducible rfl) | rfl) ?_
  refine r_aload_n (i := 0) dJ8_length_5 rfl rfl ?_
  refine r_callV (As := []) (mc' := 0) (ms' := 0) dJ8_length_6 k_J8_335 rfl (by first | assumption | (simp only [kd_sI, kd_sR, kd_sA, kd_sQ, kd_sL, kd_sD, ln_sI, ln_sR, ln_sA, ln_sQ, ln_sL, ln_sD, gI_sR, gI_sA, gI_sQ, gI_sL, gI_sD, gR_sI, gR_sA, gR_sQ, gR_sL, gR_sD, gA_sI, gA_sR, gA_sQ, gA_sL, gA_sD, gQ_sI, gQ_sR, gQ_sA, gQ_sL, gQ_sD, gL_sI, gL_sR, gL_sA, gL_sQ, gL_sD]; assumption) | simp [kd_sI, kd_sR, kd_sA, kd_sQ, kd_sL, kd_sD, ln_sI, ln_sR, ln_sA, ln_sQ, ln_sL, ln_sD, gI_sR, gI_sA, gI_sQ, gI_sL, gI_sD, gR_sI, gR_sA, gR_sQ, gR_sL, gR_sD, gA_sI, gA_sR, gA_sQ, gA_sL, gA_sD, gQ_sI, gQ_sR, gQ_sA, gQ_sL, gQ_sD, gL_sI, gL_sR, gL_sA, gL_sQ, gL_sD, kd_nO, kd_nA, *]) (T := TJ8) (N := 4) rfl (by first | assumption | omega) (by first | assumption | omega) (by first | assumption | omega) (Nat.le_of_ble_eq_true rfl) ?_
  refine s_strCoder a1 a2 ?_
  show AW mJ8_length G d Qr Qx _ _ _ 9 _ _
  refine r_ishr dJ8_length_9 ?_
  refine r_ireturn dJ8_length_10 rfl (by first | rfl | assumption | exact vp_nar_int _ | exact pk_nc _) ?_
  rw [shr0]
  exact hQ
theorem s_strCheck {i m : Nat} (hd : 1 ≤ d) (hi : i < m) (hm : m < 1000) (hQ : Qr none H) : AMet G d 0 0 yJ8_checkIndex wJ8_checkIndex H [vI (nI i), vI (nI m)] Qr Qx := by
  refine AMet.of (M := mJ8_checkIndex) (maxL := 2) (by first | rfl | decide +kernel) rfl (Nat.le_of_ble_eq_true rfl) ?_
  show AW mJ8_checkIndex _ _ _ _ _ _ _ 0 [some (vI (nI i)), some (vI (nI m))] []
  refine r_iload_n (i := 0) dJ8_checkIndex_0 rfl rfl ?_
  refine r_iload_n (i := 1) dJ8_checkIndex_1 rfl rfl ?_
  refine r_gs_sio dJ8_checkIndex_2 q502 (fun r2 => ?_)
  refine r_callS (As := [_, _, _]) (mc' := 0) (ms' := 0) dJ8_checkIndex_5 k_J8_1059 rfl (by first | assumption | omega) (by first | assumption | omega) (by first | assumption | omega) (Nat.le_of_ble_eq_true rfl) ?_
  refine s_pcheck hi hm ?_
  show AW mJ8_checkIndex G d Qr Qx _ _ _ 8 _ _
  refine r_pop dJ8_checkIndex_8 rfl ?_
  refine r_return dJ8_checkIndex_9 rfl ?_
  exact hQ
theorem s_latCharAt {v i m : Nat} {cs : Nat → Nat} (hd : 2 ≤ d) (h : BA H 2113 v m cs) (hl : ln H v = m) (hi : i < m) (hm : m < 1000) (hQ : Qr (some (vI (nI (cs i)))) H) : AMet G d 0 0 yJ20_charAt wJ20_charAt H [vR (some v), vI (nI i)] Qr Qx := by
  obtain ⟨a5, a6⟩ := h
  obtain ⟨g1, g2⟩ := a6 i hi
  refine AMet.of (M := mJ20_charAt) (maxL := 2) (by first | rfl | decide +kernel) rfl (Nat.le_of_ble_eq_true rfl) ?_
  show AW mJ20_charAt _ _ _ _ _ _ _ 0 [some (vR (some v)), some (vI (nI i))] []
  refine r_iload_n (i := 1) dJ20_charAt_0 rfl rfl ?_
  refine r_aload_n (i := 0) dJ20_charAt_1 rfl rfl ?_
  refine r_alen dJ20_charAt_2 (by first | (refine ⟨?_, ?_⟩ <;> simp [kd_sI, kd_sR, kd_sA, kd_sQ, kd_sL, kd_sD, ln_sI, ln_sR, ln_sA, ln_sQ, ln_sL, ln_sD, gI_sR, gI_sA, gI_sQ, gI_sL, gI_sD, gR_sI, gR_sA, gR_sQ, gR_sL, gR_sD, gA_sI, gA_sR, gA_sQ, gA_sL, gA_sD, gQ_sI, gQ_sR, gQ_sA, gQ_sL, gQ_sD, gL_sI, gL_sR, gL_sA, gL_sQ, gL_sD, *]; done) | omega) (by first | assumption | exact gI_sIs | exact gR_sRs | with_reducible rfl | (simp only [kd_sI, kd_sR, kd_sA, kd_sQ, kd_sL, kd_sD, ln_sI, ln_sR, ln_sA, ln_sQ, ln_sL, ln_sD, gI_sR, gI_sA, gI_sQ, gI_sL, gI_sD, gR_sI, gR_sA, gR_sQ, gR_sL, gR_sD, gA_sI, gA_sR, gA_sQ, gA_sL, gA_sD, gQ_sI, gQ_sR, gQ_sA, gQ_sL, gQ_sD, gL_sI, gL_sR, gL_sA, gL_sQ, gL_sD]; first | done | assumption | with_reducible rfl) | rfl) ?_
  refine r_callS (As := [_, _]) (mc' := 0) (ms' := 0) dJ20_charAt_3 k_J20_9 rfl (by first | assumption | omega) (by first | assumption | omega) (by first | assumption | omega) (Nat.le_of_ble_eq_true rfl) ?_
  refine s_strCheck (by omega) hi hm ?_
  show AW mJ20_charAt G d Qr Qx _ _ _ 6 _ _
  refine r_aload_n (i := 0) dJ20_charAt_6 rfl rfl ?_
  refine r_iload_n (i := 1) dJ20_charAt_7 rfl rfl ?_
  refine r_bald dJ20_charAt_8 (by first | assumption | (simp only [kd_sI, kd_sR, kd_sA, kd_sQ, kd_sL, kd_sD, ln_sI, ln_sR, ln_sA, ln_sQ, ln_sL, ln_sD, gI_sR, gI_sA, gI_sQ, gI_sL, gI_sD, gR_sI, gR_sA, gR_sQ, gR_sL, gR_sD, gA_sI, gA_sR, gA_sQ, gA_sL, gA_sD, gQ_sI, gQ_sR, gQ_sA, gQ_sL, gQ_sD, gL_sI, gL_sR, gL_sA, gL_sQ, gL_sD]; assumption) | simp [kd_sI, kd_sR, kd_sA, kd_sQ, kd_sL, kd_sD, ln_sI, ln_sR, ln_sA, ln_sQ, ln_sL, ln_sD, gI_sR, gI_sA, gI_sQ, gI_sL, gI_sD, gR_sI, gR_sA, gR_sQ, gR_sL, gR_sD, gA_sI, gA_sR, gA_sQ, gA_sL, gA_sD, gQ_sI, gQ_sR, gQ_sA, gQ_sL, gQ_sD, gL_sI, gL_sR, gL_sA, gL_sQ, gL_sD, kd_nO, kd_nA, *]) (by first | decide | assumption) (by first | assumption | exact gI_sIs | exact gR_sRs | with_reducible rfl | (simp only [kd_sI, kd_sR, kd_sA, kd_sQ, kd_sL, kd_sD, ln_sI, ln_sR, ln_sA, ln_sQ, ln_sL, ln_sD, gI_sR, gI_sA, gI_sQ, gI_sL, gI_sD, gR_sI, gR_sA, gR_sQ, gR_sL, gR_sD, gA_sI, gA_sR, gA_sQ, gA_sL, gA_sD, gQ_sI, gQ_sR, gQ_sA, gQ_sL, gQ_sD, gL_sI, gL_sR, gL_sA, gL_sQ, gL_sD]; first | done | assumption | with_reducible rfl) | rfl) (by first | with_reducible rfl | assumption | (simp only [nI_add, pk_mul, nI_1]; with_reducible rfl)) (by first | assumption | omega) (by first | assumption | omega) (by first | assumption | exact gI_sIs | exact gR_sRs | with_reducible rfl | (simp only [kd_sI, kd_sR, kd_sA, kd_sQ, kd_sL, kd_sD, ln_sI, ln_sR, ln_sA, ln_sQ, ln_sL, ln_sD, gI_sR, gI_sA, gI_sQ, gI_sL, gI_sD, gR_sI, gR_sA, gR_sQ, gR_sL, gR_sD, gA_sI, gA_sR, gA_sQ, gA_sL, gA_sD, gQ_sI, gQ_sR, gQ_sA, gQ_sL, gQ_sD, gL_sI, gL_sR, gL_sA, gL_sQ, gL_sD]; first | done | assumption | with_reducible rfl) | rfl) ?_
  refine r_sipush (v := nI 255) dJ20_charAt_9 (by decide) ?_
  refine r_iand dJ20_charAt_12 ?_
  refine r_i2c dJ20_charAt_13 ?_
  have hn := cd_nch _ g2
  rw [cd_i2c _ g2]
  refine r_ireturn dJ20_charAt_14 rfl (by first | rfl | assumption | exact vp_nar_int _ | exact pk_nc _) ?_
  exact hQ
theorem s_strCharAt {a i m : Nat} {cs : Nat → Nat} (hd : 3 ≤ d) (h : ST H a m cs) (hi : i < m) (hQ : Qr (some (vI (nI (cs i)))) H) : AMet G d 0 0 yJ8_charAt wJ8_charAt H [vR (some a), vI (nI i)] Qr Qx := by
  obtain ⟨a1, a2, a3, ⟨v, a4, a5, a7⟩, a8⟩ := h
  have hc := cd_nch _ (a5.2 i hi).2
  refine AMet.of (M := mJ8_charAt) (maxL := 2) (by first | rfl | decide +kernel) rfl (Nat.le_of_ble_eq_true rfl) ?_
  show AW mJ8_charAt _ _ _ _ _ _ _ 0 [some (vR (some a)), some (vI (nI i))] []
  refine r_aload_n (i := 0) dJ8_charAt_0 rfl rfl ?_
  refine r_callV (As := []) (mc' := 0) (ms' := 0) dJ8_charAt_1 k_J8_492 rfl (by first | assumption | (simp only [kd_sI, kd_sR, kd_sA, kd_sQ, kd_sL, kd_sD, ln_sI, ln_sR, ln_sA, ln_sQ, ln_sL, ln_sD, gI_sR, gI_sA, gI_sQ, gI_sL, gI_sD, gR_sI, gR_sA, gR_sQ, gR_sL, gR_sD, gA_sI, gA_sR, gA_sQ, gA_sL, gA_sD, gQ_sI, gQ_sR, gQ_sA, gQ_sL, gQ_sD, gL_sI, gL_sR, gL_sA, gL_sQ, gL_sD]; assumption) | simp [kd_sI, kd_sR, kd_sA, kd_sQ, kd_sL, kd_sD, ln_sI, ln_sR, ln_sA, ln_sQ, ln_sL, ln_sD, gI_sR, gI_sA, gI_sQ, gI_sL, gI_sD, gR_sI, gR_sA, gR_sQ, gR_sL, gR_sD, gA_sI, gA_sR, gA_sQ, gA_sL, gA_sD, gQ_sI, gQ_sR, gQ_sA, gQ_sL, gQ_sD, gL_sI, gL_sR, gL_sA, gL_sQ, gL_sD, kd_nO, kd_nA, *]) (T := TJ8) (N := 4) rfl (by first | assumption | omega) (by first | assumption | omega) (by first | assumption | omega) (Nat.le_of_ble_eq_true rfl) ?_
  refine s_strLatin a1 a2 ?_
  show AW mJ8_charAt G d Qr Qx _ _ _ 4 _ _
  refine r_if_eq (tgt := 16) dJ8_charAt_4 (by decide) (fun h4 => ?_) (fun h4 => ?_)
  · exact absurd h4 (by decide)
  · refine r_aload_n (i := 0) dJ8_charAt_7 rfl rfl ?_
    refine r_getR dJ8_charAt_8 fR_J8_9 (by first | assumption | (simp only [kd_sI, kd_sR, kd_sA, kd_sQ, kd_sL, kd_sD, ln_sI, ln_sR, ln_sA, ln_sQ, ln_sL, ln_sD, gI_sR, gI_sA, gI_sQ, gI_sL, gI_sD, gR_sI, gR_sA, gR_sQ, gR_sL, gR_sD, gA_sI, gA_sR, gA_sQ, gA_sL, gA_sD, gQ_sI, gQ_sR, gQ_sA, gQ_sL, gQ_sD, gL_sI, gL_sR, gL_sA, gL_sQ, gL_sD]; assumption) | simp [kd_sI, kd_sR, kd_sA, kd_sQ, kd_sL, kd_sD, ln_sI, ln_sR, ln_sA, ln_sQ, ln_sL, ln_sD, gI_sR, gI_sA, gI_sQ, gI_sL, gI_sD, gR_sI, gR_sA, gR_sQ, gR_sL, gR_sD, gA_sI, gA_sR, gA_sQ, gA_sL, gA_sD, gQ_sI, gQ_sR, gQ_sA, gQ_sL, gQ_sD, gL_sI, gL_sR, gL_sA, gL_sQ, gL_sD, kd_nO, kd_nA, *]) (by first | assumption | exact gI_sIs | exact gR_sRs | with_reducible rfl | (simp only [kd_sI, kd_sR, kd_sA, kd_sQ, kd_sL, kd_sD, ln_sI, ln_sR, ln_sA, ln_sQ, ln_sL, ln_sD, gI_sR, gI_sA, gI_sQ, gI_sL, gI_sD, gR_sI, gR_sA, gR_sQ, gR_sL, gR_sD, gA_sI, gA_sR, gA_sQ, gA_sL, gA_sD, gQ_sI, gQ_sR, gQ_sA, gQ_sL, gQ_sD, gL_sI, gL_sR, gL_sA, gL_sQ, gL_sD]; first | done | assumption | with_reducible rfl) | rfl) ?_
    refine r_iload_n (i := 1) dJ8_charAt_11 rfl rfl ?_
    refine r_callS (As := [_, _]) (mc' := 0) (ms' := 0) dJ8_charAt_12 k_J8_495 rfl (by first | assumption | omega) (by first | assumption | omega) (by first | assumption | omega) (Nat.le_of_ble_eq_true rfl) ?_
    refine s_latCharAt (by omega) a5 a7 hi a3 ?_
    show AW mJ8_charAt G d Qr Qx _ _ _ 15 _ _
    refine r_ireturn dJ8_charAt_15 rfl (by first | rfl | assumption | exact vp_nar_int _ | exact pk_nc _) ?_
    exact hQ
/-- equal byte arrays -/
theorem s_latEquals {v w m k : Nat} {cs ds : Nat → Nat} {b : Bool} (h1 : BA H 2113 v m cs) (h2 : BA H 2113 w k ds) (l1 : ln H v = m) (l2 : ln H w = k) (hm : m < 1000) (hk : k < 1000) (hb : b = decide (m = k ∧ ∀ i, i < m → cs i = ds i)) (hQ : Qr (some (vI (bI b))) H) : AMet G d 0 0 yJ20_equals wJ20_equals H [vR (some v), vR (some w)] Qr Qx := by
  obtain ⟨a1, a2⟩ := h1
  obtain ⟨b1, b2⟩ := h2
  refine AMet.of (M := mJ20_equals) (maxL := 3) (by first | rfl | decide +kernel) rfl (Nat.le_of_ble_eq_true rfl) ?_
  show AW mJ20_equals _ _ _ _ _ _ _ 0 [some (vR (some v)), some (vR (some w)), none] []
  refine r_aload_n (i := 0) dJ20_equals_0 rfl rfl ?_
  refine r_alen dJ20_equals_1 (by first | (refine ⟨?_, ?_⟩ <;> simp [kd_sI, kd_sR, kd_sA, kd_sQ, kd_sL, kd_sD, ln_sI, ln_sR, ln_sA, ln_sQ, ln_sL, ln_sD, gI_sR, gI_sA, gI_sQ, gI_sL, gI_sD, gR_sI, gR_sA, gR_sQ, gR_sL, gR_sD, gA_sI, gA_sR, gA_sQ, gA_sL, gA_sD, gQ_sI, gQ_sR, gQ_sA, gQ_sL, gQ_sD, gL_sI, gL_sR, gL_sA, gL_sQ, gL_sD, *]; done) | omega) (by first | assumption | exact gI_sIs | exact gR_sRs | with_reducible rfl | (simp only [kd_sI, kd_sR, kd_sA, kd_sQ, kd_sL, kd_sD, ln_sI, ln_sR, ln_sA, ln_sQ, ln_sL, ln_sD, gI_sR, gI_sA, gI_sQ, gI_sL, gI_sD, gR_sI, gR_sA, gR_sQ, gR_sL, gR_sD, gA_sI, gA_sR, gA_sQ, gA_sL, gA_sD, gQ_sI, gQ_sR, gQ_sA, gQ_sL, gQ_sD, gL_sI, gL_sR, gL_sA, gL_sQ, gL_sD]; first | done | assumption | with_reducible rfl) | rfl) ?_
  refine r_aload_n (i := 1) dJ20_equals_2 rfl rfl ?_
  refine r_alen dJ20_equals_3 (by first | (refine ⟨?_, ?_⟩ <;> simp [kd_sI, kd_sR, kd_sA, kd_sQ, kd_sL, kd_sD, ln_sI, ln_sR, ln_sA, ln_sQ, ln_sL, ln_sD, gI_sR, gI_sA, gI_sQ, gI_sL, gI_sD, gR_sI, gR_sA, gR_sQ, gR_sL, gR_sD, gA_sI, gA_sR, gA_sQ, gA_sL, gA_sD, gQ_sI, gQ_sR, gQ_sA, gQ_sL, gQ_sD, gL_sI, gL_sR, gL_sA, gL_sQ, gL_sD, *]; done) | omega) (by first | assumption | exact gI_sIs | exact gR_sRs | with_reducible rfl | (simp only [kd_sI, kd_sR, kd_sA, kd_sQ, kd_sL, kd_sD, ln_sI, ln_sR, ln_sA, ln_sQ, ln_sL, ln_sD, gI_sR, gI_sA, gI_sQ, gI_sL, gI_sD, gR_sI, gR_sA, gR_sQ, gR_sL, gR_sD, gA_sI, gA_sR, gA_sQ, gA_sL, gA_sD, gQ_sI, gQ_sR, gQ_sA, gQ_sL, gQ_sD, gL_sI, gL_sR, gL_sA, gL_sQ, gL_sD]; first | done | assumption | with_reducible rfl) | rfl) ?_
  refine r_icmp_ne (tgt := 34) dJ20_equals_4 (by decide) (fun h4 => ?_) (fun h4 => ?_)
  · have hne : m ≠ k := fun q => h4 (by rw [q])
    have hf : b = false := by rw [hb]; exact decide_eq_false (fun q => hne q.1)
    rw [hf] at hQ
    refine r_iconst (v := nI 0) dJ20_equals_34 (by decide) ?_
    refine r_ireturn dJ20_equals_35 rfl (by first | rfl | assumption | exact vp_nar_int _ | exact pk_nc _) ?_
    exact hQ
  · have hmk : m = k := Classical.byContradiction fun q => nI_ne q (by omega) (by omega) h4
    subst hmk
    refine r_iconst (v := nI 0) dJ20_equals_7 (by decide) ?_
    refine r_istore_n (i := 2) dJ20_equals_8 rfl (Nat.le_of_ble_eq_true rfl) (by simp only [lset]; rfl) ?_
    have loop : ∀ (k i : Nat), i + k = m → (∀ j, j < i → cs j = ds j) → AW mJ20_equals G d Qr Qx 0 0 H 9 [some (vR (some v)), some (vR (some w)), some (vI (nI i))] [] := by
      intro k
      induction k with
      | zero =>
        intro i hi he
        rw [show i = m by omega] at he ⊢
        have hf : b = true := by rw [hb]; exact decide_eq_true ⟨rfl, he⟩
        rw [hf] at hQ
        refine r_iload_n (i := 2) dJ20_equals_9 rfl rfl ?_
        refine r_aload_n (i := 0) dJ20_equals_10 rfl rfl ?_
        refine r_alen dJ20_equals_11 (by first | (refine ⟨?_, ?_⟩ <;> simp [kd_sI, kd_sR, kd_sA, kd_sQ, kd_sL, kd_sD, ln_sI, ln_sR, ln_sA, ln_sQ, ln_sL, ln_sD, gI_sR, gI_sA, gI_sQ, gI_sL, gI_sD, gR_sI, gR_sA, gR_sQ, gR_sL, gR_sD, gA_sI, gA_sR, gA_sQ, gA_sL, gA_sD, gQ_sI, gQ_sR, gQ_sA, gQ_sL, gQ_sD, gL_sI, gL_sR, gL_sA, gL_sQ, gL_sD, *]; done) | omega) (by first | assumption | exact gI_sIs | exact gR_sRs | with_reducible rfl | (simp only [kd_sI, kd_sR, kd_sA, kd_sQ, kd_sL, kd_sD, ln_sI, ln_sR, ln_sA, ln_sQ, ln_sL, ln_sD, gI_sR, gI_sA, gI_sQ, gI_sL, gI_sD, gR_sI, gR_sA, gR_sQ, gR_sL, gR_sD, gA_sI, gA_sR, gA_sQ, gA_sL, gA_sD, gQ_sI, gQ_sR, gQ_sA, gQ_sL, gQ_sD, gL_sI, gL_sR, gL_sA, gL_sQ, gL_sD]; first | done | assumption | with_reducible rfl) | rfl) ?_
        refine r_icmp_ge (tgt := 32) dJ20_equals_12 (by decide) (fun h12 => ?_) (fun h12 => ?_)
        · refine r_iconst (v := nI 1) dJ20_equals_32 (by decide) ?_
          refine r_ireturn dJ20_equals_33 rfl (by first | rfl | assumption | exact vp_nar_int _ | exact pk_nc _) ?_
          exact hQ
        · exact absurd (nI_le (by omega) (by omega)) h12
      | succ k ih =>
        intro i hi he
        obtain ⟨g1, g2⟩ := a2 i (by omega)
        obtain ⟨g3, g4⟩ := b2 i (by omega)
        refine r_iload_n (i := 2) dJ20_equals_9 rfl rfl ?_
        refine r_aload_n (i := 0) dJ20_equals_10 rfl rfl ?_
        refine r_alen dJ20_equals_11 (by first | (refine ⟨?_, ?_⟩ <;> simp [kd_sI, kd_sR, kd_sA, kd_sQ, kd_sL, kd_sD, ln_sI, ln_sR, ln_sA, ln_sQ, ln_sL, ln_sD, gI_sR, gI_sA, gI_sQ, gI_sL, gI_sD, gR_sI, gR_sA, gR_sQ, gR_sL, gR_sD, gA_sI, gA_sR, gA_sQ, gA_sL, gA_sD, gQ_sI, gQ_sR, gQ_sA, gQ_sL, gQ_sD, gL_sI, gL_sR, gL_sA, gL_sQ, gL_sD, *]; done) | omega) (by first | assumption | exact gI_sIs | exact gR_sRs | with_reducible rfl | (simp only [kd_sI, kd_sR, kd_sA, kd_sQ, kd_sL, kd_sD, ln_sI, ln_sR, ln_sA, ln_sQ, ln_sL, ln_sD, gI_sR, gI_sA, gI_sQ, gI_sL, gI_sD, gR_sI, gR_sA, gR_sQ, gR_sL, gR_sD, gA_sI, gA_sR, gA_sQ, gA_sL, gA_sD, gQ_sI, gQ_sR, gQ_sA, gQ_sL, gQ_sD, gL_sI, gL_sR, gL_sA, gL_sQ, gL_sD]; first | done | assumption | with_reducible rfl) | rfl) ?_
        refine r_icmp_ge (tgt := 32) dJ20_equals_12 (by decide) (fun h12 => ?_) (fun h12 => ?_)
        · exact absurd h12 (nI_ge (by omega) (by omega))
        · refine r_aload_n (i := 0) dJ20_equals_15 rfl rfl ?_
          refine r_iload_n (i := 2) dJ20_equals_16 rfl rfl ?_
          refine r_bald dJ20_equals_17 (by first | assumption | (simp only [kd_sI, kd_sR, kd_sA, kd_sQ, kd_sL, kd_sD, ln_sI, ln_sR, ln_sA, ln_sQ, ln_sL, ln_sD, gI_sR, gI_sA, gI_sQ, gI_sL, gI_sD, gR_sI, gR_sA, gR_sQ, gR_sL, gR_sD, gA_sI, gA_sR, gA_sQ, gA_sL, gA_sD, gQ_sI, gQ_sR, gQ_sA, gQ_sL, gQ_sD, gL_sI, gL_sR, gL_sA, gL_sQ, gL_sD]; assumption) | simp [kd_sI, kd_sR, kd_sA, kd_sQ, kd_sL, kd_sD, ln_sI, ln_sR, ln_sA, ln_sQ, ln_sL, ln_sD, gI_sR, gI_sA, gI_sQ, gI_sL, gI_sD, gR_sI, gR_sA, gR_sQ, gR_sL, gR_sD, gA_sI, gA_sR, gA_sQ, gA_sL, gA_sD, gQ_sI, gQ_sR, gQ_sA, gQ_sL, gQ_sD, gL_sI, gL_sR, gL_sA, gL_sQ, gL_sD, kd_nO, kd_nA, *]) (by first | decide | assumption) (by first | assumption | exact gI_sIs | exact gR_sRs | with_reducible rfl | (simp only [kd_sI, kd_sR, kd_sA, kd_sQ, kd_sL, kd_sD, ln_sI, ln_sR, ln_sA, ln_sQ, ln_sL, ln_sD, gI_sR, gI_sA, gI_sQ, gI_sL, gI_sD, gR_sI, gR_sA, gR_sQ, gR_sL, gR_sD, gA_sI, gA_sR, gA_sQ, gA_sL, gA_sD, gQ_sI, gQ_sR, gQ_sA, gQ_sL, gQ_sD, gL_sI, gL_sR, gL_sA, gL_sQ, gL_sD]; first | done | assumption | with_reducible rfl) | rfl) (by first | with_reducible rfl | assumption | (simp only [nI_add, pk_mul, nI_1]; with_reducible rfl)) (by first | assumption | omega) (by first | assumption | omega) (by first | assumption | exact gI_sIs | exact gR_sRs | with_reducible rfl | (simp only [kd_sI, kd_sR, kd_sA, kd_sQ, kd_sL, kd_sD, ln_sI, ln_sR, ln_sA, ln_sQ, ln_sL, ln_sD, gI_sR, gI_sA, gI_sQ, gI_sL, gI_sD, gR_sI, gR_sA, gR_sQ, gR_sL, gR_sD, gA_sI, gA_sR, gA_sQ, gA_sL, gA_sD, gQ_sI, gQ_sR, gQ_sA, gQ_sL, gQ_sD, gL_sI, gL_sR, gL_sA, gL_sQ, gL_sD]; first | done | assumption | with_reducible rfl) | rfl) ?_
          refine r_aload_n (i := 1) dJ20_equals_18 rfl rfl ?_
          refine r_iload_n (i := 2) dJ20_equals_19 rfl rfl ?_
          refine r_bald dJ20_equals_20 (by first | assumption | (simp only [kd_sI, kd_sR, kd_sA, kd_sQ, kd_sL, kd_sD, ln_sI, ln_sR, ln_sA, ln_sQ, ln_sL, ln_sD, gI_sR, gI_sA, gI_sQ, gI_sL, gI_sD, gR_sI, gR_sA, gR_sQ, gR_sL, gR_sD, gA_sI, gA_sR, gA_sQ, gA_sL, gA_sD, gQ_sI, gQ_sR, gQ_sA, gQ_sL, gQ_sD, gL_sI, gL_sR, gL_sA, gL_sQ, gL_sD]; assumption) | simp [kd_sI, kd_sR, kd_sA, kd_sQ, kd_sL, kd_sD, ln_sI, ln_sR, ln_sA, ln_sQ, ln_sL, ln_sD, gI_sR, gI_sA, gI_sQ, gI_sL, gI_sD, gR_sI, gR_sA, gR_sQ, gR_sL, gR_sD, gA_sI, gA_sR, gA_sQ, gA_sL, gA_sD, gQ_sI, gQ_sR, gQ_sA, gQ_sL, gQ_sD, gL_sI, gL_sR, gL_sA, gL_sQ, gL_sD, kd_nO, kd_nA, *]) (by first | decide | assumption) (by first | assumption | exact gI_sIs | exact gR_sRs | with_reducible rfl | (simp only [kd_sI, kd_sR, kd_sA, kd_sQ, kd_sL, kd_sD, ln_sI, ln_sR, ln_sA, ln_sQ, ln_sL, ln_sD, gI_sR, gI_sA, gI_sQ, gI_sL, gI_sD, gR_sI, gR_sA, gR_sQ, gR_sL, gR_sD, gA_sI, gA_sR, gA_sQ, gA_sL, gA_sD, gQ_sI, gQ_sR, gQ_sA, gQ_sL, gQ_sD, gL_sI, gL_sR, gL_sA, gL_sQ, gL_sD]; first | done | assumption | with_reducible rfl) | rfl) (by first | with_reducible rfl | assumption | (simp only [nI_add, pk_mul, nI_1]; with_reducible rfl)) (by first | assumption | omega) (by first | assumption | omega) (by first | assumption | exact gI_sIs | exact gR_sRs | with_reducible rfl | (simp only [kd_sI, kd_sR, kd_sA, kd_sQ, kd_sL, kd_sD, ln_sI, ln_sR, ln_sA, ln_sQ, ln_sL, ln_sD, gI_sR, gI_sA, gI_sQ, gI_sL, gI_sD, gR_sI, gR_sA, gR_sQ, gR_sL, gR_sD, gA_sI, gA_sR, gA_sQ, gA_sL, gA_sD, gQ_sI, gQ_sR, gQ_sA, gQ_sL, gQ_sD, gL_sI, gL_sR, gL_sA, gL_sQ, gL_sD]; first | done | assumption | with_reducible rfl) | rfl) ?_
          refine r_icmp_eq (tgt := 26) dJ20_equals_21 (by decide) (fun h21 => ?_) (fun h21 => ?_)
          · have hcd : cs i = ds i := Classical.byContradiction fun q => nI_ne q (by omega) (by omega) h21
            refine r_iinc dJ20_equals_26 rfl (by first | exact nI_1 _ | rfl) (by simp only [lset]; rfl) ?_
            refine r_goto (tgt := 9) dJ20_equals_29 (by decide) ?_
            refine ih (i + 1) (by omega) (fun j hj => ?_)
            by_cases hji : j = i
            · rw [hji]
              exact hcd
            · exact he j (by omega)
          · have hf : b = false := by rw [hb]; exact decide_eq_false (fun q => h21 (by rw [q.2 i (by omega)]))
            rw [hf] at hQ
            refine r_iconst (v := nI 0) dJ20_equals_24 (by decide) ?_
            refine r_ireturn dJ20_equals_25 rfl (by first | rfl | assumption | exact vp_nar_int _ | exact pk_nc _) ?_
            exact hQ
    exact loop m 0 (by omega) (fun j hj => absurd hj (by omega))
theorem s_strEquals {a c m k : Nat} {cs ds : Nat → Nat} {b : Bool} (hd : 1 ≤ d) (h1 : ST H a m cs) (h2 : ST H c k ds) (hb : b = decide (m = k ∧ ∀ i, i < m → cs i = ds i)) (hQ : Qr (some (vI (bI b))) H) : AMet G d 0 0 yJ8_equals wJ8_equals H [vR (some a), vR (some c)] Qr Qx := by
  obtain ⟨a1, a2, a3, ⟨v, a4, a5, a7⟩, a8⟩ := h1
  obtain ⟨b1, b2, b3, ⟨w, b4, b5, b7⟩, b8⟩ := h2
  refine AMet.of (M := mJ8_equals) (maxL := 3) (by first | rfl | decide +kernel) rfl (Nat.le_of_ble_eq_true rfl) ?_
  show AW mJ8_equals _ _ _ _ _ _ _ 0 [some (vR (some a)), some (vR (some c)), none] []
  refine r_aload_n (i := 0) dJ8_equals_0 rfl rfl ?_
  refine r_aload_n (i := 1) dJ8_equals_1 rfl rfl ?_
  refine r_acmp_ne (tgt := 7) dJ8_equals_2 (by decide) (fun h2 => ?_) (fun h2 => ?_)
  · refine r_aload_n (i := 1) dJ8_equals_7 rfl rfl ?_
    refine r_inst dJ8_equals_8 (by first | assumption | (simp only [kd_sI, kd_sR, kd_sA, kd_sQ, kd_sL, kd_sD, ln_sI, ln_sR, ln_sA, ln_sQ, ln_sL, ln_sD, gI_sR, gI_sA, gI_sQ, gI_sL, gI_sD, gR_sI, gR_sA, gR_sQ, gR_sL, gR_sD, gA_sI, gA_sR, gA_sQ, gA_sL, gA_sD, gQ_sI, gQ_sR, gQ_sA, gQ_sL, gQ_sD, gL_sI, gL_sR, gL_sA, gL_sQ, gL_sD]; assumption) | simp [kd_sI, kd_sR, kd_sA, kd_sQ, kd_sL, kd_sD, ln_sI, ln_sR, ln_sA, ln_sQ, ln_sL, ln_sD, gI_sR, gI_sA, gI_sQ, gI_sL, gI_sD, gR_sI, gR_sA, gR_sQ, gR_sL, gR_sD, gA_sI, gA_sR, gA_sQ, gA_sL, gA_sD, gQ_sI, gQ_sR, gQ_sA, gQ_sL, gQ_sD, gL_sI, gL_sR, gL_sA, gL_sQ, gL_sD, kd_nO, kd_nA, *]) (T := TJ8) (N := 4) rfl q784 (Or.inl rfl) ?_
    refine r_if_eq (tgt := 54) dJ8_equals_11 (by decide) (fun h11 => ?_) (fun h11 => ?_)
    · exact absurd h11 (by decide)
    · refine r_aload_n (i := 1) dJ8_equals_14 rfl rfl ?_
      refine r_cast dJ8_equals_15 (by first | assumption | (simp only [kd_sI, kd_sR, kd_sA, kd_sQ, kd_sL, kd_sD, ln_sI, ln_sR, ln_sA, ln_sQ, ln_sL, ln_sD, gI_sR, gI_sA, gI_sQ, gI_sL, gI_sD, gR_sI, gR_sA, gR_sQ, gR_sL, gR_sD, gA_sI, gA_sR, gA_sQ, gA_sL, gA_sD, gQ_sI, gQ_sR, gQ_sA, gQ_sL, gQ_sD, gL_sI, gL_sR, gL_sA, gL_sQ, gL_sD]; assumption) | simp [kd_sI, kd_sR, kd_sA, kd_sQ, kd_sL, kd_sD, ln_sI, ln_sR, ln_sA, ln_sQ, ln_sL, ln_sD, gI_sR, gI_sA, gI_sQ, gI_sL, gI_sD, gR_sI, gR_sA, gR_sQ, gR_sL, gR_sD, gA_sI, gA_sR, gA_sQ, gA_sL, gA_sD, gQ_sI, gQ_sR, gQ_sA, gQ_sL, gQ_sD, gL_sI, gL_sR, gL_sA, gL_sQ, gL_sD, kd_nO, kd_nA, *]) (T := TJ8) (N := 4) rfl q784 (Or.inl rfl) ?_
      refine r_astore_n (i := 2) dJ8_equals_18 rfl (Nat.le_of_ble_eq_true rfl) (by simp only [lset]; rfl) ?_
      refine r_gs_compact dJ8_equals_19 (Or.inl q544) ?_
      refine r_if_eq (tgt := 36) dJ8_equals_22 (by decide) (fun h22 => ?_) (fun h22 => ?_)
      · exact absurd h22 (by decide)
      · refine r_aload_n (i := 0) dJ8_equals_25 rfl rfl ?_
        refine r_getI dJ8_equals_26 fR_J8_15 (by first | assumption | (simp only [kd_sI, kd_sR, kd_sA, kd_sQ, kd_sL, kd_sD, ln_sI, ln_sR, ln_sA, ln_sQ, ln_sL, ln_sD, gI_sR, gI_sA, gI_sQ, gI_sL, gI_sD, gR_sI, gR_sA, gR_sQ, gR_sL, gR_sD, gA_sI, gA_sR, gA_sQ, gA_sL, gA_sD, gQ_sI, gQ_sR, gQ_sA, gQ_sL, gQ_sD, gL_sI, gL_sR, gL_sA, gL_sQ, gL_sD]; assumption) | simp [kd_sI, kd_sR, kd_sA, kd_sQ, kd_sL, kd_sD, ln_sI, ln_sR, ln_sA, ln_sQ, ln_sL, ln_sD, gI_sR, gI_sA, gI_sQ, gI_sL, gI_sD, gR_sI, gR_sA, gR_sQ, gR_sL, gR_sD, gA_sI, gA_sR, gA_sQ, gA_sL, gA_sD, gQ_sI, gQ_sR, gQ_sA, gQ_sL, gQ_sD, gL_sI, gL_sR, gL_sA, gL_sQ, gL_sD, kd_nO, kd_nA, *]) (by first | assumption | exact gI_sIs | exact gR_sRs | with_reducible rfl | (simp only [kd_sI, kd_sR, kd_sA, kd_sQ, kd_sL, kd_sD, ln_sI, ln_sR, ln_sA, ln_sQ, ln_sL, ln_sD, gI_sR, gI_sA, gI_sQ, gI_sL, gI_sD, gR_sI, gR_sA, gR_sQ, gR_sL, gR_sD, gA_sI, gA_sR, gA_sQ, gA_sL, gA_sD, gQ_sI, gQ_sR, gQ_sA, gQ_sL, gQ_sD, gL_sI, gL_sR, gL_sA, gL_sQ, gL_sD]; first | done | assumption | with_reducible rfl) | rfl) ?_
        refine r_aload_n (i := 2) dJ8_equals_29 rfl rfl ?_
        refine r_getI dJ8_equals_30 fR_J8_15 (by first | assumption | (simp only [kd_sI, kd_sR, kd_sA, kd_sQ, kd_sL, kd_sD, ln_sI, ln_sR, ln_sA, ln_sQ, ln_sL, ln_sD, gI_sR, gI_sA, gI_sQ, gI_sL, gI_sD, gR_sI, gR_sA, gR_sQ, gR_sL, gR_sD, gA_sI, gA_sR, gA_sQ, gA_sL, gA_sD, gQ_sI, gQ_sR, gQ_sA, gQ_sL, gQ_sD, gL_sI, gL_sR, gL_sA, gL_sQ, gL_sD]; assumption) | simp [kd_sI, kd_sR, kd_sA, kd_sQ, kd_sL, kd_sD, ln_sI, ln_sR, ln_sA, ln_sQ, ln_sL, ln_sD, gI_sR, gI_sA, gI_sQ, gI_sL, gI_sD, gR_sI, gR_sA, gR_sQ, gR_sL, gR_sD, gA_sI, gA_sR, gA_sQ, gA_sL, gA_sD, gQ_sI, gQ_sR, gQ_sA, gQ_sL, gQ_sD, gL_sI, gL_sR, gL_sA, gL_sQ, gL_sD, kd_nO, kd_nA, *]) (by first | assumption | exact gI_sIs | exact gR_sRs | with_reducible rfl | (simp only [kd_sI, kd_sR, kd_sA, kd_sQ, kd_sL, kd_sD, ln_sI, ln_sR, ln_sA, ln_sQ, ln_sL, ln_sD, gI_sR, gI_sA, gI_sQ, gI_sL, gI_sD, gR_sI, gR_sA, gR_sQ, gR_sL, gR_sD, gA_sI, gA_sR, gA_sQ, gA_sL, gA_sD, gQ_sI, gQ_sR, gQ_sA, gQ_sL, gQ_sD, gL_sI, gL_sR, gL_sA, gL_sQ, gL_sD]; first | done | assumption | with_reducible rfl) | rfl) ?_
        refine r_icmp_ne (tgt := 54) dJ8_equals_33 (by decide) (fun h33 => ?_) (fun h33 => ?_)
        · exact absurd rfl h33
        · refine r_aload_n (i := 0) dJ8_equals_36 rfl rfl ?_
          refine r_getR dJ8_equals_37 fR_J8_9 (by first | assumption | (simp only [kd_sI, kd_sR, kd_sA, kd_sQ, kd_sL, kd_sD, ln_sI, ln_sR, ln_sA, ln_sQ, ln_sL, ln_sD, gI_sR, gI_sA, gI_sQ, gI_sL, gI_sD, gR_sI, gR_sA, gR_sQ, gR_sL, gR_sD, gA_sI, gA_sR, gA_sQ, gA_sL, gA_sD, gQ_sI, gQ_sR, gQ_sA, gQ_sL, gQ_sD, gL_sI, gL_sR, gL_sA, gL_sQ, gL_sD]; assumption) | simp [kd_sI, kd_sR, kd_sA, kd_sQ, kd_sL, kd_sD, ln_sI, ln_sR, ln_sA, ln_sQ, ln_sL, ln_sD, gI_sR, gI_sA, gI_sQ, gI_sL, gI_sD, gR_sI, gR_sA, gR_sQ, gR_sL, gR_sD, gA_sI, gA_sR, gA_sQ, gA_sL, gA_sD, gQ_sI, gQ_sR, gQ_sA, gQ_sL, gQ_sD, gL_sI, gL_sR, gL_sA, gL_sQ, gL_sD, kd_nO, kd_nA, *]) (by first | assumption | exact gI_sIs | exact gR_sRs | with_reducible rfl | (simp only [kd_sI, kd_sR, kd_sA, kd_sQ, kd_sL, kd_sD, ln_sI, ln_sR, ln_sA, ln_sQ, ln_sL, ln_sD, gI_sR, gI_sA, gI_sQ, gI_sL, gI_sD, gR_sI, gR_sA, gR_sQ, gR_sL, gR_sD, gA_sI, gA_sR, gA_sQ, gA_sL, gA_sD, gQ_sI, gQ_sR, gQ_sA, gQ_sL, gQ_sD, gL_sI, gL_sR, gL_sA, gL_sQ, gL_sD]; first | done | assumption | with_reducible rfl) | rfl) ?_
          refine r_aload_n (i := 2) dJ8_equals_40 rfl rfl ?_
          refine r_getR dJ8_equals_41 fR_J8_9 (by first | assumption | (simp only [kd_sI, kd_sR, kd_sA, kd_sQ, kd_sL, kd_sD, ln_sI, ln_sR, ln_sA, ln_sQ, ln_sL, ln_sD, gI_sR, gI_sA, gI_sQ, gI_sL, gI_sD, gR_sI, gR_sA, gR_sQ, gR_sL, gR_sD, gA_sI, gA_sR, gA_sQ, gA_sL, gA_sD, gQ_sI, gQ_sR, gQ_sA, gQ_sL, gQ_sD, gL_sI, gL_sR, gL_sA, gL_sQ, gL_sD]; assumption) | simp [kd_sI, kd_sR, kd_sA, kd_sQ, kd_sL, kd_sD, ln_sI, ln_sR, ln_sA, ln_sQ, ln_sL, ln_sD, gI_sR, gI_sA, gI_sQ, gI_sL, gI_sD, gR_sI, gR_sA, gR_sQ, gR_sL, gR_sD, gA_sI, gA_sR, gA_sQ, gA_sL, gA_sD, gQ_sI, gQ_sR, gQ_sA, gQ_sL, gQ_sD, gL_sI, gL_sR, gL_sA, gL_sQ, gL_sD, kd_nO, kd_nA, *]) (by first | assumption | exact gI_sIs | exact gR_sRs | with_reducible rfl | (simp only [kd_sI, kd_sR, kd_sA, kd_sQ, kd_sL, kd_sD, ln_sI, ln_sR, ln_sA, ln_sQ, ln_sL, ln_sD, gI_sR, gI_sA, gI_sQ, gI_sL, gI_sD, gR_sI, gR_sA, gR_sQ, gR_sL, gR_sD, gA_sI, gA_sR, gA_sQ, gA_sL, gA_sD, gQ_sI, gQ_sR, gQ_sA, gQ_sL, gQ_sD, gL_sI, gL_sR, gL_sA, gL_sQ, gL_sD]; first | done | assumption | with_reducible rfl) | rfl) ?_
          refine r_callS (As := [_, _]) (mc' := 0) (ms' := 0) dJ8_equals_44 k_J8_541 rfl (by first | assumption | omega) (by first | assumption | omega) (by first | assumption | omega) (Nat.le_of_ble_eq_true rfl) ?_
          refine s_latEquals a5 b5 a7 b7 a3 b3 hb ?_
          show AW mJ8_equals G d Qr Qx _ _ _ 47 _ _
          refine r_if_eq (tgt := 54) dJ8_equals_47 (by decide) (fun h47 => ?_) (fun h47 => ?_)
          · rw [bI_eq0.mp h47] at hQ
            refine r_iconst (v := nI 0) dJ8_equals_54 (by decide) ?_
            refine r_ireturn dJ8_equals_55 rfl (by first | rfl | assumption | exact vp_nar_int _ | exact pk_nc _) ?_
            exact hQ
          · rw [bI_ne0 h47] at hQ
            refine r_iconst (v := nI 1) dJ8_equals_50 (by decide) ?_
            refine r_goto (tgt := 55) dJ8_equals_51 (by decide) ?_
            refine r_ireturn dJ8_equals_55 rfl (by first | rfl | assumption | exact vp_nar_int _ | exact pk_nc _) ?_
            exact hQ
  · have hac : a = c := Option.some.inj h2
    subst hac
    have hvw : v = w := Option.some.inj (a4.symm.trans b4)
    subst hvw
    have hmk : m = k := a7.symm.trans b7
    subst hmk
    have hf : b = true := by
      rw [hb]
      refine decide_eq_true ⟨rfl, fun i hi => ?_⟩
      obtain ⟨g1, g2⟩ := a5.2 i hi
      obtain ⟨g3, g4⟩ := b5.2 i hi
      exact Classical.byContradiction fun q => nI_ne q (by omega) (by omega) (g1.symm.trans g3)
    rw [hf] at hQ
    refine r_iconst (v := nI 1) dJ8_equals_5 (by decide) ?_
    refine r_ireturn dJ8_equals_6 rfl (by first | rfl | assumption | exact vp_nar_int _ | exact pk_nc _) ?_
    exact hQ
theorem s_sHash {v m : Nat} {cs : Nat → Nat} (h : BA H 2113 v m cs) (hl : ln H v = m) (hm : m < 1000) (hQ : Qr (some (vI (hsh cs m))) H) : AMet G d 0 0 yJ21_signedHashCode wJ21_signedHashCode H [vI (nI 0), vR (some v), vI (nI 0), vI (nI m)] Qr Qx := by
  obtain ⟨a5, a6⟩ := h
  refine AMet.of (M := mJ21_signedHashCode) (maxL := 6) (by first | rfl | decide +kernel) rfl (Nat.le_of_ble_eq_true rfl) ?_
  show AW mJ21_signedHashCode _ _ _ _ _ _ _ 0 [some (vI (nI 0)), some (vR (some v)), some (vI (nI 0)), some (vI (nI m)), none, none] []
  refine r_iload_n (i := 2) dJ21_signedHashCode_0 rfl rfl ?_
  refine r_iload_n (i := 3) dJ21_signedHashCode_1 rfl rfl ?_
  refine r_iadd dJ21_signedHashCode_2 ?_
  try simp only [nI_add]
  refine r_istore dJ21_signedHashCode_3 (Nat.le_of_ble_eq_true rfl) (by simp only [lset]; rfl) ?_
  refine r_iload_n (i := 2) dJ21_signedHashCode_5 rfl rfl ?_
  refine r_istore dJ21_signedHashCode_6 (Nat.le_of_ble_eq_true rfl) (by simp only [lset]; rfl) ?_
  rw [show 0 + m = m from Nat.zero_add m]
  have loop : ∀ (k i : Nat), i + k = m → AW mJ21_signedHashCode G d Qr Qx 0 0 H 8 [some (vI (hsh cs i)), some (vR (some v)), some (vI (nI 0)), some (vI (nI m)), some (vI (nI m)), some (vI (nI i))] [] := by
    intro k
    induction k with
    | zero =>
      intro i hi
      rw [show i = m by omega]
      refine r_iload dJ21_signedHashCode_8 rfl ?_
      refine r_iload dJ21_signedHashCode_10 rfl ?_
      refine r_icmp_ge (tgt := 35) dJ21_signedHashCode_12 (by decide) (fun h12 => ?_) (fun h12 => ?_)
      · refine r_iload_n (i := 0) dJ21_signedHashCode_35 rfl rfl ?_
        refine r_ireturn dJ21_signedHashCode_36 rfl (by first | rfl | assumption | exact vp_nar_int _ | exact pk_nc _) ?_
        exact hQ
      · exact absurd (nI_le (by omega) (by omega)) h12
    | succ k ih =>
      intro i hi
      obtain ⟨g1, g2⟩ := a6 i (by omega)
      refine r_iload dJ21_signedHashCode_8 rfl ?_
      refine r_iload dJ21_signedHashCode_10 rfl ?_
      refine r_icmp_ge (tgt := 35) dJ21_signedHashCode_12 (by decide) (fun h12 => ?_) (fun h12 => ?_)
      · exact absurd h12 (nI_ge (by omega) (by omega))
      · refine r_bipush (v := nI 31) dJ21_signedHashCode_15 (by decide) ?_
        refine r_iload_n (i := 0) dJ21_signedHashCode_17 rfl rfl ?_
        refine r_imul dJ21_signedHashCode_18 ?_
        refine r_aload_n (i := 1) dJ21_signedHashCode_19 rfl rfl ?_
        refine r_iload dJ21_signedHashCode_20 rfl ?_
        refine r_bald dJ21_signedHashCode_22 (by first | assumption | (simp only [kd_sI, kd_sR, kd_sA, kd_sQ, kd_sL, kd_sD, ln_sI, ln_sR, ln_sA, ln_sQ, ln_sL, ln_sD, gI_sR, gI_sA, gI_sQ, gI_sL, gI_sD, gR_sI, gR_sA, gR_sQ, gR_sL, gR_sD, gA_sI, gA_sR, gA_sQ, gA_sL, gA_sD, gQ_sI, gQ_sR, gQ_sA, gQ_sL, gQ_sD, gL_sI, gL_sR, gL_sA, gL_sQ, gL_sD]; assumption) | simp [kd_sI, kd_sR, kd_sA, kd_sQ, kd_sL, kd_sD, ln_sI, ln_sR, ln_sA, ln_sQ, ln_sL, ln_sD, gI_sR, gI_sA, gI_sQ, gI_sL, gI_sD, gR_sI, gR_sA, gR_sQ, gR_sL, gR_sD, gA_sI, gA_sR, gA_sQ, gA_sL, gA_sD, gQ_sI, gQ_sR, gQ_sA, gQ_sL, gQ_sD, gL_sI, gL_sR, gL_sA, gL_sQ, gL_sD, kd_nO, kd_nA, *]) (by first | decide | assumption) (by first | assumption | exact gI_sIs | exact gR_sRs | with_reducible rfl | (simp only [kd_sI, kd_sR, kd_sA, kd_sQ, kd_sL, kd_sD, ln_sI, ln_sR, ln_sA, ln_sQ, ln_sL, ln_sD, gI_sR, gI_sA, gI_sQ, gI_sL, gI_sD, gR_sI, gR_sA, gR_sQ, gR_sL, gR_sD, gA_sI, gA_sR, gA_sQ, gA_sL, gA_sD, gQ_sI, gQ_sR, gQ_sA, gQ_sL, gQ_sD, gL_sI, gL_sR, gL_sA, gL_sQ, gL_sD]; first | done | assumption | with_reducible rfl) | rfl) (by first | with_reducible rfl | assumption | (simp only [nI_add, pk_mul, nI_1]; with_reducible rfl)) (by first | assumption | omega) (by first | assumption | omega) (by first | assumption | exact gI_sIs | exact gR_sRs | with_reducible rfl | (simp only [kd_sI, kd_sR, kd_sA, kd_sQ, kd_sL, kd_sD, ln_sI, ln_sR, ln_sA, ln_sQ, ln_sL, ln_sD, gI_sR, gI_sA, gI_sQ, gI_sL, gI_sD, gR_sI, gR_sA, gR_sQ, gR_sL, gR_sD, gA_sI, gA_sR, gA_sQ, gA_sL, gA_sD, gQ_sI, gQ_sR, gQ_sA, gQ_sL, gQ_sD, gL_sI, gL_sR, gL_sA, gL_sQ, gL_sD]; first | done | assumption | with_reducible rfl) | rfl) ?_
        refine r_sipush (v := nI 255) dJ21_signedHashCode_23 (by decide) ?_
        refine r_iand dJ21_signedHashCode_26 ?_
        rw [cd255 _ g2]
        refine r_iadd dJ21_signedHashCode_27 ?_
        try simp only [nI_add]
        refine r_istore_n (i := 0) dJ21_signedHashCode_28 rfl (Nat.le_of_ble_eq_true rfl) (by simp only [lset]; rfl) ?_
        refine r_iinc dJ21_signedHashCode_29 rfl (by first | exact nI_1 _ | rfl) (by simp only [lset]; rfl) ?_
        refine r_goto (tgt := 8) dJ21_signedHashCode_32 (by decide) ?_
        exact ih (i + 1) (by omega)
  exact loop m 0 (by omega)
theorem s_vHash {v m : Nat} {cs : Nat → Nat} (hd : 1 ≤ d) (h : BA H 2113 v m cs) (hl : ln H v = m) (hm : m < 1000) (hQ : Qr (some (vI (hsh cs m))) H) : AMet G d 0 0 yJ21_vectorizedHashCode wJ21_vectorizedHashCode H [vR (some v), vI (nI 0), vI (nI m), vI (nI 0), vI (nI 4)] Qr Qx := by
  have a5 := h.1
  refine AMet.of (M := mJ21_vectorizedHashCode) (maxL := 5) (by first | rfl | decide +kernel) rfl (Nat.le_of_ble_eq_true rfl) ?_
  show AW mJ21_vectorizedHashCode _ _ _ _ _ _ _ 0 [some (vR (some v)), some (vI (nI 0)), some (vI (nI m)), some (vI (nI 0)), some (vI (nI 4))] []
  refine r_iload dJ21_vectorizedHashCode_0 rfl ?_
  refine r_tableIn (tgt := 44) dJ21_vectorizedHashCode_2 (by decide) (by decide) rfl (by decide) ?_
  refine r_iload_n (i := 3) dJ21_vectorizedHashCode_44 rfl rfl ?_
  refine r_aload_n (i := 0) dJ21_vectorizedHashCode_45 rfl rfl ?_
  refine r_cast_byte dJ21_vectorizedHashCode_46 q693 (by first | assumption | (simp only [kd_sI, kd_sR, kd_sA, kd_sQ, kd_sL, kd_sD, ln_sI, ln_sR, ln_sA, ln_sQ, ln_sL, ln_sD, gI_sR, gI_sA, gI_sQ, gI_sL, gI_sD, gR_sI, gR_sA, gR_sQ, gR_sL, gR_sD, gA_sI, gA_sR, gA_sQ, gA_sL, gA_sD, gQ_sI, gQ_sR, gQ_sA, gQ_sL, gQ_sD, gL_sI, gL_sR, gL_sA, gL_sQ, gL_sD]; assumption) | simp [kd_sI, kd_sR, kd_sA, kd_sQ, kd_sL, kd_sD, ln_sI, ln_sR, ln_sA, ln_sQ, ln_sL, ln_sD, gI_sR, gI_sA, gI_sQ, gI_sL, gI_sD, gR_sI, gR_sA, gR_sQ, gR_sL, gR_sD, gA_sI, gA_sR, gA_sQ, gA_sL, gA_sD, gQ_sI, gQ_sR, gQ_sA, gQ_sL, gQ_sD, gL_sI, gL_sR, gL_sA, gL_sQ, gL_sD, kd_nO, kd_nA, *]) (by first | decide | assumption) ?_
  refine r_iload_n (i := 1) dJ21_vectorizedHashCode_49 rfl rfl ?_
  refine r_iload_n (i := 2) dJ21_vectorizedHashCode_50 rfl rfl ?_
  refine r_callS (As := [_, _, _, _]) (mc' := 0) (ms' := 0) dJ21_vectorizedHashCode_51 k_J21_62 rfl (by first | assumption | omega) (by first | assumption | omega) (by first | assumption | omega) (Nat.le_of_ble_eq_true rfl) ?_
  refine s_sHash h hl hm ?_
  show AW mJ21_vectorizedHashCode G d Qr Qx _ _ _ 54 _ _
  refine r_goto (tgt := 157) dJ21_vectorizedHashCode_54 (by decide) ?_
  refine r_ireturn dJ21_vectorizedHashCode_157 rfl (by first | rfl | assumption | exact vp_nar_int _ | exact pk_nc _) ?_
  exact hQ
theorem s_latHash {v m : Nat} {cs : Nat → Nat} (hd : 2 ≤ d) (h : BA H 2113 v m cs) (hl : ln H v = m) (hm : m < 1000) (hQ : Qr (some (vI (hsh cs m))) H) : AMet G d 0 0 yJ20_hashCode wJ20_hashCode H [vR (some v)] Qr Qx := by
  have a5 := h.1
  refine AMet.of (M := mJ20_hashCode) (maxL := 1) (by first | rfl | decide +kernel) rfl (Nat.le_of_ble_eq_true rfl) ?_
  show AW mJ20_hashCode _ _ _ _ _ _ _ 0 [some (vR (some v))] []
  refine r_aload_n (i := 0) dJ20_hashCode_0 rfl rfl ?_
  refine r_alen dJ20_hashCode_1 (by first | (refine ⟨?_, ?_⟩ <;> simp [kd_sI, kd_sR, kd_sA, kd_sQ, kd_sL, kd_sD, ln_sI, ln_sR, ln_sA, ln_sQ, ln_sL, ln_sD, gI_sR, gI_sA, gI_sQ, gI_sL, gI_sD, gR_sI, gR_sA, gR_sQ, gR_sL, gR_sD, gA_sI, gA_sR, gA_sQ, gA_sL, gA_sD, gQ_sI, gQ_sR, gQ_sA, gQ_sL, gQ_sD, gL_sI, gL_sR, gL_sA, gL_sQ, gL_sD, *]; done) | omega) (by first | assumption | exact gI_sIs | exact gR_sRs | with_reducible rfl | (simp only [kd_sI, kd_sR, kd_sA, kd_sQ, kd_sL, kd_sD, ln_sI, ln_sR, ln_sA, ln_sQ, ln_sL, ln_sD, gI_sR, gI_sA, gI_sQ, gI_sL, gI_sD, gR_sI, gR_sA, gR_sQ, gR_sL, gR_sD, gA_sI, gA_sR, gA_sQ, gA_sL, gA_sD, gQ_sI, gQ_sR, gQ_sA, gQ_sL, gQ_sD, gL_sI, gL_sR, gL_sA, gL_sQ, gL_sD]; first | done | assumption | with_reducible rfl) | rfl) ?_
  match m, hm, h, hl, hQ with
  | 0, hm, h, hl, hQ =>
    refine r_lookup (tgt := 28) dJ20_hashCode_2 (by decide) rfl (by decide) ?_
    refine r_iconst (v := nI 0) dJ20_hashCode_28 (by decide) ?_
    refine r_goto (tgt := 51) dJ20_hashCode_29 (by decide) ?_
    refine r_ireturn dJ20_hashCode_51 rfl (by first | rfl | assumption | exact vp_nar_int _ | exact pk_nc _) ?_
    exact hQ
  | 1, hm, h, hl, hQ =>
    obtain ⟨g1, g2⟩ := h.2 0 (by decide)
    refine r_lookup (tgt := 32) dJ20_hashCode_2 (by decide) rfl (by decide) ?_
    refine r_aload_n (i := 0) dJ20_hashCode_32 rfl rfl ?_
    refine r_iconst (v := nI 0) dJ20_hashCode_33 (by decide) ?_
    refine r_bald dJ20_hashCode_34 (by first | assumption | (simp only [kd_sI, kd_sR, kd_sA, kd_sQ, kd_sL, kd_sD, ln_sI, ln_sR, ln_sA, ln_sQ, ln_sL, ln_sD, gI_sR, gI_sA, gI_sQ, gI_sL, gI_sD, gR_sI, gR_sA, gR_sQ, gR_sL, gR_sD, gA_sI, gA_sR, gA_sQ, gA_sL, gA_sD, gQ_sI, gQ_sR, gQ_sA, gQ_sL, gQ_sD, gL_sI, gL_sR, gL_sA, gL_sQ, gL_sD]; assumption) | simp [kd_sI, kd_sR, kd_sA, kd_sQ, kd_sL, kd_sD, ln_sI, ln_sR, ln_sA, ln_sQ, ln_sL, ln_sD, gI_sR, gI_sA, gI_sQ, gI_sL, gI_sD, gR_sI, gR_sA, gR_sQ, gR_sL, gR_sD, gA_sI, gA_sR, gA_sQ, gA_sL, gA_sD, gQ_sI, gQ_sR, gQ_sA, gQ_sL, gQ_sD, gL_sI, gL_sR, gL_sA, gL_sQ, gL_sD, kd_nO, kd_nA, *]) (by first | decide | assumption) (by first | assumption | exact gI_sIs | exact gR_sRs | with_reducible rfl | (simp only [kd_sI, kd_sR, kd_sA, kd_sQ, kd_sL, kd_sD, ln_sI, ln_sR, ln_sA, ln_sQ, ln_sL, ln_sD, gI_sR, gI_sA, gI_sQ, gI_sL, gI_sD, gR_sI, gR_sA, gR_sQ, gR_sL, gR_sD, gA_sI, gA_sR, gA_sQ, gA_sL, gA_sD, gQ_sI, gQ_sR, gQ_sA, gQ_sL, gQ_sD, gL_sI, gL_sR, gL_sA, gL_sQ, gL_sD]; first | done | assumption | with_reducible rfl) | rfl) (by first | with_reducible rfl | assumption | (simp only [nI_add, pk_mul, nI_1]; with_reducible rfl)) (by first | assumption | omega) (by first | assumption | omega) (by first | assumption | exact gI_sIs | exact gR_sRs | with_reducible rfl | (simp only [kd_sI, kd_sR, kd_sA, kd_sQ, kd_sL, kd_sD, ln_sI, ln_sR, ln_sA, ln_sQ, ln_sL, ln_sD, gI_sR, gI_sA, gI_sQ, gI_sL, gI_sD, gR_sI, gR_sA, gR_sQ, gR_sL, gR_sD, gA_sI, gA_sR, gA_sQ, gA_sL, gA_sD, gQ_sI, gQ_sR, gQ_sA, gQ_sL, gQ_sD, gL_sI, gL_sR, gL_sA, gL_sQ, gL_sD]; first | done | assumption | with_reducible rfl) | rfl) ?_
    refine r_sipush (v := nI 255) dJ20_hashCode_35 (by decide) ?_
    refine r_iand dJ20_hashCode_38 ?_
    rw [cd255 _ g2]
    refine r_goto (tgt := 51) dJ20_hashCode_39 (by decide) ?_
    refine r_ireturn dJ20_hashCode_51 rfl (by first | rfl | assumption | exact vp_nar_int _ | exact pk_nc _) ?_
    have e : hsh cs 1 = nI (cs 0) := by
      rw [hsh, hsh]
      rw [show nI 31 * nI 0 = nI 0 by decide, nI_add, Nat.zero_add]
    rw [e] at hQ
    exact hQ
  | m + 2, hm, h, hl, hQ =>
    refine r_lookup (off := 40) (tgt := 42) dJ20_hashCode_2 (by decide) ?_ (by decide) ?_
    · rw [nI_toInt (by omega)]
      show Op.lookupswitch.offset _ _ ((m + 2 : Nat) : Int) = 40
      have h1 : ¬ (0 : Int) = ((m + 2 : Nat) : Int) := by omega
      have h2 : ¬ (1 : Int) = ((m + 2 : Nat) : Int) := by omega
      simp [Op.lookupswitch.offset]
      omega
    refine r_aload_n (i := 0) dJ20_hashCode_42 rfl rfl ?_
    refine r_iconst (v := nI 0) dJ20_hashCode_43 (by decide) ?_
    refine r_aload_n (i := 0) dJ20_hashCode_44 rfl rfl ?_
    refine r_alen dJ20_hashCode_45 (by first | (refine ⟨?_, ?_⟩ <;> simp [kd_sI, kd_sR, kd_sA, kd_sQ, kd_sL, kd_sD, ln_sI, ln_sR, ln_sA, ln_sQ, ln_sL, ln_sD, gI_sR, gI_sA, gI_sQ, gI_sL, gI_sD, gR_sI, gR_sA, gR_sQ, gR_sL, gR_sD, gA_sI, gA_sR, gA_sQ, gA_sL, gA_sD, gQ_sI, gQ_sR, gQ_sA, gQ_sL, gQ_sD, gL_sI, gL_sR, gL_sA, gL_sQ, gL_sD, *]; done) | omega) (by first | assumption | exact gI_sIs | exact gR_sRs | with_reducible rfl | (simp only [kd_sI, kd_sR, kd_sA, kd_sQ, kd_sL, kd_sD, ln_sI, ln_sR, ln_sA, ln_sQ, ln_sL, ln_sD, gI_sR, gI_sA, gI_sQ, gI_sL, gI_sD, gR_sI, gR_sA, gR_sQ, gR_sL, gR_sD, gA_sI, gA_sR, gA_sQ, gA_sL, gA_sD, gQ_sI, gQ_sR, gQ_sA, gQ_sL, gQ_sD, gL_sI, gL_sR, gL_sA, gL_sQ, gL_sD]; first | done | assumption | with_reducible rfl) | rfl) ?_
    refine r_iconst (v := nI 0) dJ20_hashCode_46 (by decide) ?_
    refine r_iconst (v := nI 4) dJ20_hashCode_47 (by decide) ?_
    refine r_callS (As := [_, _, _, _, _]) (mc' := 0) (ms' := 0) dJ20_hashCode_48 k_J20_84 rfl (by first | assumption | omega) (by first | assumption | omega) (by first | assumption | omega) (Nat.le_of_ble_eq_true rfl) ?_
    refine s_vHash (by omega) h hl hm ?_
    show AW mJ20_hashCode G d Qr Qx _ _ _ 51 _ _
    refine r_ireturn dJ20_hashCode_51 rfl (by first | rfl | assumption | exact vp_nar_int _ | exact pk_nc _) ?_
    exact hQ
/-- what hashing a string may change: the string, if its hash has not been asked for -/
def SH (H : AH) (a : Nat) (b : Nat) : Prop := b = a ∧ gI H 115 a = 0
def STK (H H' : AH) (a m : Nat) (cs : Nat → Nat) : Prop := ST H' a m cs ∧ gR H' 113 a = gR H 113 a
theorem s_strHash {a m : Nat} {cs : Nat → Nat} (hd : 3 ≤ d) (h : ST H a m cs) (hQ : ∀ H', Ks (SH H a) H H' → STK H H' a m cs → gI H' 115 a = hsh cs m → Qr (some (vI (hsh cs m))) H') : AMet G d 0 0 yJ8_hashCode wJ8_hashCode H [vR (some a)] Qr Qx := by
  have h0 := h
  obtain ⟨a1, a2, a3, ⟨v, a4, a5, a7⟩, a8⟩ := h
  obtain ⟨hv, hhv⟩ : ∃ hv, gI H 115 a = hv := ⟨_, rfl⟩
  obtain ⟨zv, hzv⟩ : ∃ zv, gI H 116 a = zv := ⟨_, rfl⟩
  rw [hhv, hzv] at a8
  have hva : a ≠ v := ne_of_kd a1 a5.1 (by decide)
  refine AMet.of (M := mJ8_hashCode) (maxL := 2) (by first | rfl | decide +kernel) rfl (Nat.le_of_ble_eq_true rfl) ?_
  show AW mJ8_hashCode _ _ _ _ _ _ _ 0 [some (vR (some a)), none] []
  refine r_aload_n (i := 0) dJ8_hashCode_0 rfl rfl ?_
  refine r_getI dJ8_hashCode_1 fR_J8_19 (by first | assumption | (simp only [kd_sI, kd_sR, kd_sA, kd_sQ, kd_sL, kd_sD, ln_sI, ln_sR, ln_sA, ln_sQ, ln_sL, ln_sD, gI_sR, gI_sA, gI_sQ, gI_sL, gI_sD, gR_sI, gR_sA, gR_sQ, gR_sL, gR_sD, gA_sI, gA_sR, gA_sQ, gA_sL, gA_sD, gQ_sI, gQ_sR, gQ_sA, gQ_sL, gQ_sD, gL_sI, gL_sR, gL_sA, gL_sQ, gL_sD]; assumption) | simp [kd_sI, kd_sR, kd_sA, kd_sQ, kd_sL, kd_sD, ln_sI, ln_sR, ln_sA, ln_sQ, ln_sL, ln_sD, gI_sR, gI_sA, gI_sQ, gI_sL, gI_sD, gR_sI, gR_sA, gR_sQ, gR_sL, gR_sD, gA_sI, gA_sR, gA_sQ, gA_sL, gA_sD, gQ_sI, gQ_sR, gQ_sA, gQ_sL, gQ_sD, gL_sI, gL_sR, gL_sA, gL_sQ, gL_sD, kd_nO, kd_nA, *]) (by first | assumption | exact gI_sIs | exact gR_sRs | with_reducible rfl | (simp only [kd_sI, kd_sR, kd_sA, kd_sQ, kd_sL, kd_sD, ln_sI, ln_sR, ln_sA, ln_sQ, ln_sL, ln_sD, gI_sR, gI_sA, gI_sQ, gI_sL, gI_sD, gR_sI, gR_sA, gR_sQ, gR_sL, gR_sD, gA_sI, gA_sR, gA_sQ, gA_sL, gA_sD, gQ_sI, gQ_sR, gQ_sA, gQ_sL, gQ_sD, gL_sI, gL_sR, gL_sA, gL_sQ, gL_sD]; first | done | assumption | with_reducible rfl) | rfl) ?_
  refine r_istore_n (i := 1) dJ8_hashCode_4 rfl (Nat.le_of_ble_eq_true rfl) (by simp only [lset]; rfl) ?_
  refine r_iload_n (i := 1) dJ8_hashCode_5 rfl rfl ?_
  refine r_if_ne (tgt := 58) dJ8_hashCode_6 (by decide) (fun h6 => ?_) (fun h6 => ?_)
  · have e : hv = hsh cs m := by
      rcases a8 with q | q
      · exact q
      · exact absurd q.1 h6
    refine r_iload_n (i := 1) dJ8_hashCode_58 rfl rfl ?_
    refine r_ireturn dJ8_hashCode_59 rfl (by first | rfl | assumption | exact vp_nar_int _ | exact pk_nc _) ?_
    rw [e]
    exact hQ H Ks.rf ⟨h0, rfl⟩ (hhv.trans e)
  · have hz : hv = 0 := h6
    refine r_aload_n (i := 0) dJ8_hashCode_9 rfl rfl ?_
    refine r_getI dJ8_hashCode_10 fR_J8_23 (by first | assumption | (simp only [kd_sI, kd_sR, kd_sA, kd_sQ, kd_sL, kd_sD, ln_sI, ln_sR, ln_sA, ln_sQ, ln_sL, ln_sD, gI_sR, gI_sA, gI_sQ, gI_sL, gI_sD, gR_sI, gR_sA, gR_sQ, gR_sL, gR_sD, gA_sI, gA_sR, gA_sQ, gA_sL, gA_sD, gQ_sI, gQ_sR, gQ_sA, gQ_sL, gQ_sD, gL_sI, gL_sR, gL_sA, gL_sQ, gL_sD]; assumption) | simp [kd_sI, kd_sR, kd_sA, kd_sQ, kd_sL, kd_sD, ln_sI, ln_sR, ln_sA, ln_sQ, ln_sL, ln_sD, gI_sR, gI_sA, gI_sQ, gI_sL, gI_sD, gR_sI, gR_sA, gR_sQ, gR_sL, gR_sD, gA_sI, gA_sR, gA_sQ, gA_sL, gA_sD, gQ_sI, gQ_sR, gQ_sA, gQ_sL, gQ_sD, gL_sI, gL_sR, gL_sA, gL_sQ, gL_sD, kd_nO, kd_nA, *]) (by first | assumption | exact gI_sIs | exact gR_sRs | with_reducible rfl | (simp only [kd_sI, kd_sR, kd_sA, kd_sQ, kd_sL, kd_sD, ln_sI, ln_sR, ln_sA, ln_sQ, ln_sL, ln_sD, gI_sR, gI_sA, gI_sQ, gI_sL, gI_sD, gR_sI, gR_sA, gR_sQ, gR_sL, gR_sD, gA_sI, gA_sR, gA_sQ, gA_sL, gA_sD, gQ_sI, gQ_sR, gQ_sA, gQ_sL, gQ_sD, gL_sI, gL_sR, gL_sA, gL_sQ, gL_sD]; first | done | assumption | with_reducible rfl) | rfl) ?_
    refine r_if_ne (tgt := 58) dJ8_hashCode_13 (by decide) (fun h13 => ?_) (fun h13 => ?_)
    · have e : hv = hsh cs m := by
        rcases a8 with q | q
        · exact q
        · exact absurd q.2 h13
      refine r_iload_n (i := 1) dJ8_hashCode_58 rfl rfl ?_
      refine r_ireturn dJ8_hashCode_59 rfl (by first | rfl | assumption | exact vp_nar_int _ | exact pk_nc _) ?_
      rw [e]
      exact hQ H Ks.rf ⟨h0, rfl⟩ (hhv.trans e)
    · refine r_aload_n (i := 0) dJ8_hashCode_16 rfl rfl ?_
      refine r_callV (As := []) (mc' := 0) (ms' := 0) dJ8_hashCode_17 k_J8_492 rfl (by first | assumption | (simp only [kd_sI, kd_sR, kd_sA, kd_sQ, kd_sL, kd_sD, ln_sI, ln_sR, ln_sA, ln_sQ, ln_sL, ln_sD, gI_sR, gI_sA, gI_sQ, gI_sL, gI_sD, gR_sI, gR_sA, gR_sQ, gR_sL, gR_sD, gA_sI, gA_sR, gA_sQ, gA_sL, gA_sD, gQ_sI, gQ_sR, gQ_sA, gQ_sL, gQ_sD, gL_sI, gL_sR, gL_sA, gL_sQ, gL_sD]; assumption) | simp [kd_sI, kd_sR, kd_sA, kd_sQ, kd_sL, kd_sD, ln_sI, ln_sR, ln_sA, ln_sQ, ln_sL, ln_sD, gI_sR, gI_sA, gI_sQ, gI_sL, gI_sD, gR_sI, gR_sA, gR_sQ, gR_sL, gR_sD, gA_sI, gA_sR, gA_sQ, gA_sL, gA_sD, gQ_sI, gQ_sR, gQ_sA, gQ_sL, gQ_sD, gL_sI, gL_sR, gL_sA, gL_sQ, gL_sD, kd_nO, kd_nA, *]) (T := TJ8) (N := 4) rfl (by first | assumption | omega) (by first | assumption | omega) (by first | assumption | omega) (Nat.le_of_ble_eq_true rfl) ?_
      refine s_strLatin a1 a2 ?_
      show AW mJ8_hashCode G d Qr Qx _ _ _ 20 _ _
      refine r_if_eq (tgt := 33) dJ8_hashCode_20 (by decide) (fun h20 => ?_) (fun h20 => ?_)
      · exact absurd h20 (by decide)
      · refine r_aload_n (i := 0) dJ8_hashCode_23 rfl rfl ?_
        refine r_getR dJ8_hashCode_24 fR_J8_9 (by first | assumption | (simp only [kd_sI, kd_sR, kd_sA, kd_sQ, kd_sL, kd_sD, ln_sI, ln_sR, ln_sA, ln_sQ, ln_sL, ln_sD, gI_sR, gI_sA, gI_sQ, gI_sL, gI_sD, gR_sI, gR_sA, gR_sQ, gR_sL, gR_sD, gA_sI, gA_sR, gA_sQ, gA_sL, gA_sD, gQ_sI, gQ_sR, gQ_sA, gQ_sL, gQ_sD, gL_sI, gL_sR, gL_sA, gL_sQ, gL_sD]; assumption) | simp [kd_sI, kd_sR, kd_sA, kd_sQ, kd_sL, kd_sD, ln_sI, ln_sR, ln_sA, ln_sQ, ln_sL, ln_sD, gI_sR, gI_sA, gI_sQ, gI_sL, gI_sD, gR_sI, gR_sA, gR_sQ, gR_sL, gR_sD, gA_sI, gA_sR, gA_sQ, gA_sL, gA_sD, gQ_sI, gQ_sR, gQ_sA, gQ_sL, gQ_sD, gL_sI, gL_sR, gL_sA, gL_sQ, gL_sD, kd_nO, kd_nA, *]) (by first | assumption | exact gI_sIs | exact gR_sRs | with_reducible rfl | (simp only [kd_sI, kd_sR, kd_sA, kd_sQ, kd_sL, kd_sD, ln_sI, ln_sR, ln_sA, ln_sQ, ln_sL, ln_sD, gI_sR, gI_sA, gI_sQ, gI_sL, gI_sD, gR_sI, gR_sA, gR_sQ, gR_sL, gR_sD, gA_sI, gA_sR, gA_sQ, gA_sL, gA_sD, gQ_sI, gQ_sR, gQ_sA, gQ_sL, gQ_sD, gL_sI, gL_sR, gL_sA, gL_sQ, gL_sD]; first | done | assumption | with_reducible rfl) | rfl) ?_
        refine r_callS (As := [_]) (mc' := 0) (ms' := 0) dJ8_hashCode_27 k_J8_628 rfl (by first | assumption | omega) (by first | assumption | omega) (by first | assumption | omega) (Nat.le_of_ble_eq_true rfl) ?_
        refine s_latHash (by omega) a5 a7 a3 ?_
        show AW mJ8_hashCode G d Qr Qx _ _ _ 30 _ _
        refine r_goto (tgt := 40) dJ8_hashCode_30 (by decide) ?_
        refine r_istore_n (i := 1) dJ8_hashCode_40 rfl (Nat.le_of_ble_eq_true rfl) (by simp only [lset]; rfl) ?_
        refine r_iload_n (i := 1) dJ8_hashCode_41 rfl rfl ?_
        refine r_if_ne (tgt := 53) dJ8_hashCode_42 (by decide) (fun h42 => ?_) (fun h42 => ?_)
        · refine r_aload_n (i := 0) dJ8_hashCode_53 rfl rfl ?_
          refine r_iload_n (i := 1) dJ8_hashCode_54 rfl rfl ?_
          refine r_putI dJ8_hashCode_55 fG_J8_19 (fun _ => by first | rfl | contradiction) (by first | assumption | (simp only [kd_sI, kd_sR, kd_sA, kd_sQ, kd_sL, kd_sD, ln_sI, ln_sR, ln_sA, ln_sQ, ln_sL, ln_sD, gI_sR, gI_sA, gI_sQ, gI_sL, gI_sD, gR_sI, gR_sA, gR_sQ, gR_sL, gR_sD, gA_sI, gA_sR, gA_sQ, gA_sL, gA_sD, gQ_sI, gQ_sR, gQ_sA, gQ_sL, gQ_sD, gL_sI, gL_sR, gL_sA, gL_sQ, gL_sD]; assumption) | simp [kd_sI, kd_sR, kd_sA, kd_sQ, kd_sL, kd_sD, ln_sI, ln_sR, ln_sA, ln_sQ, ln_sL, ln_sD, gI_sR, gI_sA, gI_sQ, gI_sL, gI_sD, gR_sI, gR_sA, gR_sQ, gR_sL, gR_sD, gA_sI, gA_sR, gA_sQ, gA_sL, gA_sD, gQ_sI, gQ_sR, gQ_sA, gQ_sL, gQ_sD, gL_sI, gL_sR, gL_sA, gL_sQ, gL_sD, kd_nO, kd_nA, *]) (by first | rfl | assumption) (by first | rfl | assumption) ?_
          refine r_iload_n (i := 1) dJ8_hashCode_58 rfl rfl ?_
          refine r_ireturn dJ8_hashCode_59 rfl (by first | rfl | assumption | exact vp_nar_int _ | exact pk_nc _) ?_
          have hK : Ks (SH H a) H (sI H 115 a (hsh cs m)) := Ks.rf.sI (fun _ => ⟨rfl, hhv.trans hz⟩)
          refine hQ _ hK ⟨⟨a1, ?_, a3, ⟨v, a4, a5, a7⟩, Or.inl gI_sIs⟩, rfl⟩ gI_sIs
          rw [gI_sIn (by decide)]
          exact a2
        · refine r_aload_n (i := 0) dJ8_hashCode_45 rfl rfl ?_
          refine r_iconst (v := nI 1) dJ8_hashCode_46 (by decide) ?_
          refine r_putI dJ8_hashCode_47 fG_J8_23 (fun _ => by first | rfl | contradiction) (by first | assumption | (simp only [kd_sI, kd_sR, kd_sA, kd_sQ, kd_sL, kd_sD, ln_sI, ln_sR, ln_sA, ln_sQ, ln_sL, ln_sD, gI_sR, gI_sA, gI_sQ, gI_sL, gI_sD, gR_sI, gR_sA, gR_sQ, gR_sL, gR_sD, gA_sI, gA_sR, gA_sQ, gA_sL, gA_sD, gQ_sI, gQ_sR, gQ_sA, gQ_sL, gQ_sD, gL_sI, gL_sR, gL_sA, gL_sQ, gL_sD]; assumption) | simp [kd_sI, kd_sR, kd_sA, kd_sQ, kd_sL, kd_sD, ln_sI, ln_sR, ln_sA, ln_sQ, ln_sL, ln_sD, gI_sR, gI_sA, gI_sQ, gI_sL, gI_sD, gR_sI, gR_sA, gR_sQ, gR_sL, gR_sD, gA_sI, gA_sR, gA_sQ, gA_sL, gA_sD, gQ_sI, gQ_sR, gQ_sA, gQ_sL, gQ_sD, gL_sI, gL_sR, gL_sA, gL_sQ, gL_sD, kd_nO, kd_nA, *]) (by first | rfl | assumption) (by first | rfl | assumption) ?_
          refine r_goto (tgt := 58) dJ8_hashCode_50 (by decide) ?_
          refine r_iload_n (i := 1) dJ8_hashCode_58 rfl rfl ?_
          refine r_ireturn dJ8_hashCode_59 rfl (by first | rfl | assumption | exact vp_nar_int _ | exact pk_nc _) ?_
          have hK : Ks (SH H a) H (sI H 116 a (nI 1)) := Ks.rf.sI (fun _ => ⟨rfl, hhv.trans hz⟩)
          have e5 : gI (sI H 116 a (nI 1)) 115 a = hsh cs m := by
            rw [gI_sIn (by decide), hhv, hz]
            exact h42.symm
          refine hQ _ hK ⟨⟨a1, ?_, a3, ⟨v, a4, a5, a7⟩, Or.inl e5⟩, rfl⟩ e5
          rw [gI_sIn (by decide)]
          exact a2
end Str
