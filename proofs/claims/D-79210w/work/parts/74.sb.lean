set_option maxRecDepth 100000
/-! STRING BUILDERS of codes below 128 -/
section Sb
variable {G : Gl} {d : Nat} {Qr : Option AV → AH → Prop} {Qx : String → Nat → AH → Prop} {H : AH}
/-- a StringBuilder a of n codes cs, in the array v of c bytes -/
def SB (H : AH) (a n : Nat) (cs : Nat → Nat) (v : Nat) : Prop := kd H a = 23 ∧ gI H 110 a = nI 0 ∧ gI H 112 a = nI n ∧ gR H 109 a = some v ∧ BA H 2109 v n cs ∧ n ≤ ln H v ∧ (ln H v = 16 ∨ ln H v = 34 ∨ ln H v = 70) ∧ n ≤ 60
theorem SB.ks {H' : AH} {S : Nat → Prop} {a n v : Nat} {cs : Nat → Nat} (h : SB H a n cs v) (hk : Ks S H H') (h1 : ¬ S a) (h2 : ¬ S v) : SB H' a n cs v := by
  obtain ⟨a1, a2, a3, a4, ⟨a5, a6⟩, a7, a8, a9⟩ := h
  have e1 := hk.at (a := a) (by rw [a1]; decide) h1
  have e2 := hk.at (a := v) (by rw [a5]; decide) h2
  exact ⟨by rw [at_kd e1]; exact a1, by rw [at_gI e1]; exact a2, by rw [at_gI e1]; exact a3, by rw [at_gR e1]; exact a4, ⟨by rw [at_kd e2]; exact a5, fun i hi => by rw [at_gA e2]; exact a6 i hi⟩, by rw [at_ln e2]; exact a7, by rw [at_ln e2]; exact a8, a9⟩
theorem cd_i2b : ∀ c, c < 128 → (nI c).toInt8.toInt32 = nI c := by decide
theorem cd_nar : ∀ c, c < 128 → vp_nar .byte (nI c) = nI c := by decide
theorem cd_fit : ∀ c, c < 128 → fits .byte (.int (nI c)) = true := by decide
theorem shl0 (x : Int32) : x <<< (nI 0 &&& 31) = x := by
  rw [show (nI 0 &&& 31 : Int32) = 0 by decide]
  exact Int32.shiftLeft_zero
theorem s_sbLatin {a : Nat} (h1 : kd H a = 23) (h2 : gI H 110 a = nI 0) (hQ : Qr (some (vI (nI 1))) H) : AMet G d 0 0 yJ6_isLatin1 wJ6_isLatin1 H [vR (some a)] Qr Qx := by
  refine AMet.of (M := mJ6_isLatin1) (maxL := 1) (by first | rfl | decide +kernel) rfl (Nat.le_of_ble_eq_true rfl) ?_
  show AW mJ6_isLatin1 _ _ _ _ _ _ _ 0 [some (vR (some a))] []
  refine r_gs_compact dJ6_isLatin1_0 (Or.inl q280) ?_
  refine r_if_eq (tgt := 17) dJ6_isLatin1_3 (by decide) (fun h3 => ?_) (fun h3 => ?_)
  · exact absurd h3 (by decide)
  · refine r_aload_n (i := 0) dJ6_isLatin1_6 rfl rfl ?_
    refine r_getI dJ6_isLatin1_7 fR_J6_22_J7 (by first | assumption | (simp only [kd_sI, kd_sR, kd_sA, kd_sQ, kd_sL, kd_sD, ln_sI, ln_sR, ln_sA, ln_sQ, ln_sL, ln_sD, gI_sR, gI_sA, gI_sQ, gI_sL, gI_sD, gR_sI, gR_sA, gR_sQ, gR_sL, gR_sD, gA_sI, gA_sR, gA_sQ, gA_sL, gA_sD, gQ_sI, gQ_sR, gQ_sA, gQ_sL, gQ_sD, gL_sI, gL_sR, gL_sA, gL_sQ, gL_sD]; assumption) | simp [kd_sI, kd_sR, kd_sA, kd_sQ, kd_sL, kd_sD, ln_sI, ln_sR, ln_sA, ln_sQ, ln_sL, ln_sD, gI_sR, gI_sA, gI_sQ, gI_sL, gI_sD, gR_sI, gR_sA, gR_sQ, gR_sL, gR_sD, gA_sI, gA_sR, gA_sQ, gA_sL, gA_sD, gQ_sI, gQ_sR, gQ_sA, gQ_sL, gQ_sD, gL_sI, gL_sR, gL_sA, gL_sQ, gL_sD, kd_nO, kd_nA, *]) (by first | assumption | exact gI_sIs | exact gR_sRs | with_reducible rfl | (simp only [kd_sI, kd_sR, kd_sA, kd_sQ, kd_sL, kd_sD, ln_sI, ln_sR, ln_sA, ln_sQ, ln_sL, ln_sD, gI_sR, gI_sA, gI_sQ, gI_sL, gI_sD, gR_sI, gR_sA, gR_sQ, gR_sL, gR_sD, gA_sI, gA_sR, gA_sQ, gA_sL, gA_sD, gQ_sI, gQ_sR, gQ_sA, gQ_sL, gQ_sD, gL_sI, gL_sR, gL_sA, gL_sQ, gL_sD]; first | done | assumption | with_reducible rfl) | rfl) ?_
    refine r_if_ne (tgt := 17) dJ6_isLatin1_10 (by decide) (fun h10 => ?_) (fun h10 => ?_)
    · exact absurd rfl h10
    · refine r_iconst (v := nI 1) dJ6_isLatin1_13 (by decide) ?_
      refine r_goto (tgt := 18) dJ6_isLatin1_14 (by decide) ?_
      refine r_ireturn dJ6_isLatin1_18 rfl (by first | rfl | assumption | exact vp_nar_int _ | exact pk_nc _) ?_
      exact hQ
theorem s_sbLen6 {a n : Nat} (h1 : kd H a = 23) (h2 : gI H 112 a = nI n) (hQ : Qr (some (vI (nI n))) H) : AMet G d 0 0 yJ6_length wJ6_length H [vR (some a)] Qr Qx := by
  refine AMet.of (M := mJ6_length) (maxL := 1) (by first | rfl | decide +kernel) rfl (Nat.le_of_ble_eq_true rfl) ?_
  show AW mJ6_length _ _ _ _ _ _ _ 0 [some (vR (some a))] []
  refine r_aload_n (i := 0) dJ6_length_0 rfl rfl ?_
  refine r_getI dJ6_length_1 fR_J6_79_J7 (by first | assumption | (simp only [kd_sI, kd_sR, kd_sA, kd_sQ, kd_sL, kd_sD, ln_sI, ln_sR, ln_sA, ln_sQ, ln_sL, ln_sD, gI_sR, gI_sA, gI_sQ, gI_sL, gI_sD, gR_sI, gR_sA, gR_sQ, gR_sL, gR_sD, gA_sI, gA_sR, gA_sQ, gA_sL, gA_sD, gQ_sI, gQ_sR, gQ_sA, gQ_sL, gQ_sD, gL_sI, gL_sR, gL_sA, gL_sQ, gL_sD]; assumption) | simp [kd_sI, kd_sR, kd_sA, kd_sQ, kd_sL, kd_sD, ln_sI, ln_sR, ln_sA, ln_sQ, ln_sL, ln_sD, gI_sR, gI_sA, gI_sQ, gI_sL, gI_sD, gR_sI, gR_sA, gR_sQ, gR_sL, gR_sD, gA_sI, gA_sR, gA_sQ, gA_sL, gA_sD, gQ_sI, gQ_sR, gQ_sA, gQ_sL, gQ_sD, gL_sI, gL_sR, gL_sA, gL_sQ, gL_sD, kd_nO, kd_nA, *]) (by first | assumption | exact gI_sIs | exact gR_sRs | with_reducible rfl | (simp only [kd_sI, kd_sR, kd_sA, kd_sQ, kd_sL, kd_sD, ln_sI, ln_sR, ln_sA, ln_sQ, ln_sL, ln_sD, gI_sR, gI_sA, gI_sQ, gI_sL, gI_sD, gR_sI, gR_sA, gR_sQ, gR_sL, gR_sD, gA_sI, gA_sR, gA_sQ, gA_sL, gA_sD, gQ_sI, gQ_sR, gQ_sA, gQ_sL, gQ_sD, gL_sI, gL_sR, gL_sA, gL_sQ, gL_sD]; first | done | assumption | with_reducible rfl) | rfl) ?_
  refine r_ireturn dJ6_length_4 rfl (by first | rfl | assumption | exact vp_nar_int _ | exact pk_nc _) ?_
  exact hQ
theorem s_sbLen {a n : Nat} (hd : 1 ≤ d) (h1 : kd H a = 23) (h2 : gI H 112 a = nI n) (hQ : Qr (some (vI (nI n))) H) : AMet G d 0 0 yJ7_length wJ7_length H [vR (some a)] Qr Qx := by
  refine AMet.of (M := mJ7_length) (maxL := 1) (by first | rfl | decide +kernel) rfl (Nat.le_of_ble_eq_true rfl) ?_
  show AW mJ7_length _ _ _ _ _ _ _ 0 [some (vR (some a))] []
  refine r_aload_n (i := 0) dJ7_length_0 rfl rfl ?_
  refine r_callSU (As := []) (mc' := 0) (ms' := 0) dJ7_length_1 k_J7_343 rfl (by first | assumption | (simp only [kd_sI, kd_sR, kd_sA, kd_sQ, kd_sL, kd_sD, ln_sI, ln_sR, ln_sA, ln_sQ, ln_sL, ln_sD, gI_sR, gI_sA, gI_sQ, gI_sL, gI_sD, gR_sI, gR_sA, gR_sQ, gR_sL, gR_sD, gA_sI, gA_sR, gA_sQ, gA_sL, gA_sD, gQ_sI, gQ_sR, gQ_sA, gQ_sL, gQ_sD, gL_sI, gL_sR, gL_sA, gL_sQ, gL_sD]; assumption) | simp [kd_sI, kd_sR, kd_sA, kd_sQ, kd_sL, kd_sD, ln_sI, ln_sR, ln_sA, ln_sQ, ln_sL, ln_sD, gI_sR, gI_sA, gI_sQ, gI_sL, gI_sD, gR_sI, gR_sA, gR_sQ, gR_sL, gR_sD, gA_sI, gA_sR, gA_sQ, gA_sL, gA_sD, gQ_sI, gQ_sR, gQ_sA, gQ_sL, gQ_sD, gL_sI, gL_sR, gL_sA, gL_sQ, gL_sD, kd_nO, kd_nA, *]) (T := TJ7) (N := 4) rfl (by first | assumption | omega) (by first | assumption | omega) (by first | assumption | omega) (Nat.le_of_ble_eq_true rfl) ?_
  refine s_sbLen6 h1 h2 ?_
  show AW mJ7_length G d Qr Qx _ _ _ 4 _ _
  refine r_ireturn dJ7_length_4 rfl (by first | rfl | assumption | exact vp_nar_int _ | exact pk_nc _) ?_
  exact hQ
theorem s_sbCharAt6 {a n i v : Nat} {cs : Nat → Nat} (hd : 2 ≤ d) (h : SB H a n cs v) (hi : i < n) (hQ : Qr (some (vI (nI (cs i)))) H) : AMet G d 0 0 yJ6_charAt wJ6_charAt H [vR (some a), vI (nI i)] Qr Qx := by
  obtain ⟨a1, a2, a3, a4, ⟨a5, a6⟩, a7, a8, a9⟩ := h
  obtain ⟨g1, g2⟩ := a6 i hi
  obtain ⟨c, hc⟩ : ∃ c, ln H v = c := ⟨_, rfl⟩
  rw [hc] at a7 a8
  have hc9 : c < 100 := by omega
  refine AMet.of (M := mJ6_charAt) (maxL := 5) (by first | rfl | decide +kernel) rfl (Nat.le_of_ble_eq_true rfl) ?_
  show AW mJ6_charAt _ _ _ _ _ _ _ 0 [some (vR (some a)), some (vI (nI i)), none, none, none] []
  refine r_aload_n (i := 0) dJ6_charAt_0 rfl rfl ?_
  refine r_getI dJ6_charAt_1 fR_J6_22_J7 (by first | assumption | (simp only [kd_sI, kd_sR, kd_sA, kd_sQ, kd_sL, kd_sD, ln_sI, ln_sR, ln_sA, ln_sQ, ln_sL, ln_sD, gI_sR, gI_sA, gI_sQ, gI_sL, gI_sD, gR_sI, gR_sA, gR_sQ, gR_sL, gR_sD, gA_sI, gA_sR, gA_sQ, gA_sL, gA_sD, gQ_sI, gQ_sR, gQ_sA, gQ_sL, gQ_sD, gL_sI, gL_sR, gL_sA, gL_sQ, gL_sD]; assumption) | simp [kd_sI, kd_sR, kd_sA, kd_sQ, kd_sL, kd_sD, ln_sI, ln_sR, ln_sA, ln_sQ, ln_sL, ln_sD, gI_sR, gI_sA, gI_sQ, gI_sL, gI_sD, gR_sI, gR_sA, gR_sQ, gR_sL, gR_sD, gA_sI, gA_sR, gA_sQ, gA_sL, gA_sD, gQ_sI, gQ_sR, gQ_sA, gQ_sL, gQ_sD, gL_sI, gL_sR, gL_sA, gL_sQ, gL_sD, kd_nO, kd_nA, *]) (by first | assumption | exact gI_sIs | exact gR_sRs | with_reducible rfl | (simp only [kd_sI, kd_sR, kd_sA, kd_sQ, kd_sL, kd_sD, ln_sI, ln_sR, ln_sA, ln_sQ, ln_sL, ln_sD, gI_sR, gI_sA, gI_sQ, gI_sL, gI_sD, gR_sI, gR_sA, gR_sQ, gR_sL, gR_sD, gA_sI, gA_sR, gA_sQ, gA_sL, gA_sD, gQ_sI, gQ_sR, gQ_sA, gQ_sL, gQ_sD, gL_sI, gL_sR, gL_sA, gL_sQ, gL_sD]; first | done | assumption | with_reducible rfl) | rfl) ?_
  refine r_istore_n (i := 2) dJ6_charAt_4 rfl (Nat.le_of_ble_eq_true rfl) (by simp only [lset]; rfl) ?_
  refine r_aload_n (i := 0) dJ6_charAt_5 rfl rfl ?_
  refine r_getR dJ6_charAt_6 fR_J6_15_J7 (by first | assumption | (simp only [kd_sI, kd_sR, kd_sA, kd_sQ, kd_sL, kd_sD, ln_sI, ln_sR, ln_sA, ln_sQ, ln_sL, ln_sD, gI_sR, gI_sA, gI_sQ, gI_sL, gI_sD, gR_sI, gR_sA, gR_sQ, gR_sL, gR_sD, gA_sI, gA_sR, gA_sQ, gA_sL, gA_sD, gQ_sI, gQ_sR, gQ_sA, gQ_sL, gQ_sD, gL_sI, gL_sR, gL_sA, gL_sQ, gL_sD]; assumption) | simp [kd_sI, kd_sR, kd_sA, kd_sQ, kd_sL, kd_sD, ln_sI, ln_sR, ln_sA, ln_sQ, ln_sL, ln_sD, gI_sR, gI_sA, gI_sQ, gI_sL, gI_sD, gR_sI, gR_sA, gR_sQ, gR_sL, gR_sD, gA_sI, gA_sR, gA_sQ, gA_sL, gA_sD, gQ_sI, gQ_sR, gQ_sA, gQ_sL, gQ_sD, gL_sI, gL_sR, gL_sA, gL_sQ, gL_sD, kd_nO, kd_nA, *]) (by first | assumption | exact gI_sIs | exact gR_sRs | with_reducible rfl | (simp only [kd_sI, kd_sR, kd_sA, kd_sQ, kd_sL, kd_sD, ln_sI, ln_sR, ln_sA, ln_sQ, ln_sL, ln_sD, gI_sR, gI_sA, gI_sQ, gI_sL, gI_sD, gR_sI, gR_sA, gR_sQ, gR_sL, gR_sD, gA_sI, gA_sR, gA_sQ, gA_sL, gA_sD, gQ_sI, gQ_sR, gQ_sA, gQ_sL, gQ_sD, gL_sI, gL_sR, gL_sA, gL_sQ, gL_sD]; first | done | assumption | with_reducible rfl) | rfl) ?_
  refine r_astore_n (i := 3) dJ6_charAt_9 rfl (Nat.le_of_ble_eq_true rfl) (by simp only [lset]; rfl) ?_
  refine r_aload_n (i := 0) dJ6_charAt_10 rfl rfl ?_
  refine r_getI dJ6_charAt_11 fR_J6_79_J7 (by first | assumption | (simp only [kd_sI, kd_sR, kd_sA, kd_sQ, kd_sL, kd_sD, ln_sI, ln_sR, ln_sA, ln_sQ, ln_sL, ln_sD, gI_sR, gI_sA, gI_sQ, gI_sL, gI_sD, gR_sI, gR_sA, gR_sQ, gR_sL, gR_sD, gA_sI, gA_sR, gA_sQ, gA_sL, gA_sD, gQ_sI, gQ_sR, gQ_sA, gQ_sL, gQ_sD, gL_sI, gL_sR, gL_sA, gL_sQ, gL_sD]; assumption) | simp [kd_sI, kd_sR, kd_sA, kd_sQ, kd_sL, kd_sD, ln_sI, ln_sR, ln_sA, ln_sQ, ln_sL, ln_sD, gI_sR, gI_sA, gI_sQ, gI_sL, gI_sD, gR_sI, gR_sA, gR_sQ, gR_sL, gR_sD, gA_sI, gA_sR, gA_sQ, gA_sL, gA_sD, gQ_sI, gQ_sR, gQ_sA, gQ_sL, gQ_sD, gL_sI, gL_sR, gL_sA, gL_sQ, gL_sD, kd_nO, kd_nA, *]) (by first | assumption | exact gI_sIs | exact gR_sRs | with_reducible rfl | (simp only [kd_sI, kd_sR, kd_sA, kd_sQ, kd_sL, kd_sD, ln_sI, ln_sR, ln_sA, ln_sQ, ln_sL, ln_sD, gI_sR, gI_sA, gI_sQ, gI_sL, gI_sD, gR_sI, gR_sA, gR_sQ, gR_sL, gR_sD, gA_sI, gA_sR, gA_sQ, gA_sL, gA_sD, gQ_sI, gQ_sR, gQ_sA, gQ_sL, gQ_sD, gL_sI, gL_sR, gL_sA, gL_sQ, gL_sD]; first | done | assumption | with_reducible rfl) | rfl) ?_
  refine r_aload_n (i := 3) dJ6_charAt_14 rfl rfl ?_
  refine r_alen dJ6_charAt_15 (by first | (refine ⟨?_, ?_⟩ <;> simp [kd_sI, kd_sR, kd_sA, kd_sQ, kd_sL, kd_sD, ln_sI, ln_sR, ln_sA, ln_sQ, ln_sL, ln_sD, gI_sR, gI_sA, gI_sQ, gI_sL, gI_sD, gR_sI, gR_sA, gR_sQ, gR_sL, gR_sD, gA_sI, gA_sR, gA_sQ, gA_sL, gA_sD, gQ_sI, gQ_sR, gQ_sA, gQ_sL, gQ_sD, gL_sI, gL_sR, gL_sA, gL_sQ, gL_sD, *]; done) | omega) (by first | assumption | exact gI_sIs | exact gR_sRs | with_reducible rfl | (simp only [kd_sI, kd_sR, kd_sA, kd_sQ, kd_sL, kd_sD, ln_sI, ln_sR, ln_sA, ln_sQ, ln_sL, ln_sD, gI_sR, gI_sA, gI_sQ, gI_sL, gI_sD, gR_sI, gR_sA, gR_sQ, gR_sL, gR_sD, gA_sI, gA_sR, gA_sQ, gA_sL, gA_sD, gQ_sI, gQ_sR, gQ_sA, gQ_sL, gQ_sD, gL_sI, gL_sR, gL_sA, gL_sQ, gL_sD]; first | done | assumption | with_reducible rfl) | rfl) ?_
  refine r_iload_n (i := 2) dJ6_charAt_16 rfl rfl ?_
  refine r_ishr dJ6_charAt_17 ?_
  rw [shr0]
  refine r_mmin dJ6_charAt_18 q2536 (by first | assumption | omega) (Nat.le_of_ble_eq_true rfl) ?_
  have em : (if nI c < nI n then nI c else nI n) = nI n := if_neg (nI_nlt a7 (by omega))
  rw [em]
  refine r_istore dJ6_charAt_21 (Nat.le_of_ble_eq_true rfl) (by simp only [lset]; rfl) ?_
  refine r_iload_n (i := 1) dJ6_charAt_23 rfl rfl ?_
  refine r_iload dJ6_charAt_24 rfl ?_
  refine r_callS (As := [_, _]) (mc' := 0) (ms' := 0) dJ6_charAt_26 k_J6_144 rfl (by first | assumption | omega) (by first | assumption | omega) (by first | assumption | omega) (Nat.le_of_ble_eq_true rfl) ?_
  refine s_strCheck (by omega) hi (by omega) ?_
  show AW mJ6_charAt G d Qr Qx _ _ _ 29 _ _
  refine r_iload_n (i := 2) dJ6_charAt_29 rfl rfl ?_
  refine r_if_ne (tgt := 42) dJ6_charAt_30 (by decide) (fun h30 => ?_) (fun h30 => ?_)
  · exact absurd rfl h30
  · refine r_aload_n (i := 3) dJ6_charAt_33 rfl rfl ?_
    refine r_iload_n (i := 1) dJ6_charAt_34 rfl rfl ?_
    refine r_bald dJ6_charAt_35 (by first | assumption | (simp only [kd_sI, kd_sR, kd_sA, kd_sQ, kd_sL, kd_sD, ln_sI, ln_sR, ln_sA, ln_sQ, ln_sL, ln_sD, gI_sR, gI_sA, gI_sQ, gI_sL, gI_sD, gR_sI, gR_sA, gR_sQ, gR_sL, gR_sD, gA_sI, gA_sR, gA_sQ, gA_sL, gA_sD, gQ_sI, gQ_sR, gQ_sA, gQ_sL, gQ_sD, gL_sI, gL_sR, gL_sA, gL_sQ, gL_sD]; assumption) | simp [kd_sI, kd_sR, kd_sA, kd_sQ, kd_sL, kd_sD, ln_sI, ln_sR, ln_sA, ln_sQ, ln_sL, ln_sD, gI_sR, gI_sA, gI_sQ, gI_sL, gI_sD, gR_sI, gR_sA, gR_sQ, gR_sL, gR_sD, gA_sI, gA_sR, gA_sQ, gA_sL, gA_sD, gQ_sI, gQ_sR, gQ_sA, gQ_sL, gQ_sD, gL_sI, gL_sR, gL_sA, gL_sQ, gL_sD, kd_nO, kd_nA, *]) (by first | decide | assumption) (by first | assumption | exact gI_sIs | exact gR_sRs | with_reducible rfl | (simp only [kd_sI, kd_sR, kd_sA, kd_sQ, kd_sL, kd_sD, ln_sI, ln_sR, ln_sA, ln_sQ, ln_sL, ln_sD, gI_sR, gI_sA, gI_sQ, gI_sL, gI_sD, gR_sI, gR_sA, gR_sQ, gR_sL, gR_sD, gA_sI, gA_sR, gA_sQ, gA_sL, gA_sD, gQ_sI, gQ_sR, gQ_sA, gQ_sL, gQ_sD, gL_sI, gL_sR, gL_sA, gL_sQ, gL_sD]; first | done | assumption | with_reducible rfl) | rfl) (by first | with_reducible rfl | assumption | (simp only [nI_add, pk_mul, nI_1]; with_reducible rfl)) (by first | assumption | omega) (by first | assumption | omega) (by first | assumption | exact gI_sIs | exact gR_sRs | with_reducible rfl | (simp only [kd_sI, kd_sR, kd_sA, kd_sQ, kd_sL, kd_sD, ln_sI, ln_sR, ln_sA, ln_sQ, ln_sL, ln_sD, gI_sR, gI_sA, gI_sQ, gI_sL, gI_sD, gR_sI, gR_sA, gR_sQ, gR_sL, gR_sD, gA_sI, gA_sR, gA_sQ, gA_sL, gA_sD, gQ_sI, gQ_sR, gQ_sA, gQ_sL, gQ_sD, gL_sI, gL_sR, gL_sA, gL_sQ, gL_sD]; first | done | assumption | with_reducible rfl) | rfl) ?_
    refine r_sipush (v := nI 255) dJ6_charAt_36 (by decide) ?_
    refine r_iand dJ6_charAt_39 ?_
    refine r_i2c dJ6_charAt_40 ?_
    have hn := cd_nch _ g2
    rw [cd_i2c _ g2]
    refine r_ireturn dJ6_charAt_41 rfl (by first | rfl | assumption | exact vp_nar_int _ | exact pk_nc _) ?_
    exact hQ
theorem s_sbCharAt {a n i v : Nat} {cs : Nat → Nat} (hd : 3 ≤ d) (h : SB H a n cs v) (hi : i < n) (hQ : Qr (some (vI (nI (cs i)))) H) : AMet G d 0 0 yJ7_charAt wJ7_charAt H [vR (some a), vI (nI i)] Qr Qx := by
  have a1 := h.1
  have hc := cd_nch _ (h.2.2.2.2.1.2 i hi).2
  refine AMet.of (M := mJ7_charAt) (maxL := 2) (by first | rfl | decide +kernel) rfl (Nat.le_of_ble_eq_true rfl) ?_
  show AW mJ7_charAt _ _ _ _ _ _ _ 0 [some (vR (some a)), some (vI (nI i))] []
  refine r_aload_n (i := 0) dJ7_charAt_0 rfl rfl ?_
  refine r_iload_n (i := 1) dJ7_charAt_1 rfl rfl ?_
  refine r_callSU (As := [_]) (mc' := 0) (ms' := 0) dJ7_charAt_2 k_J7_329 rfl (by first | assumption | (simp only [kd_sI, kd_sR, kd_sA, kd_sQ, kd_sL, kd_sD, ln_sI, ln_sR, ln_sA, ln_sQ, ln_sL, ln_sD, gI_sR, gI_sA, gI_sQ, gI_sL, gI_sD, gR_sI, gR_sA, gR_sQ, gR_sL, gR_sD, gA_sI, gA_sR, gA_sQ, gA_sL, gA_sD, gQ_sI, gQ_sR, gQ_sA, gQ_sL, gQ_sD, gL_sI, gL_sR, gL_sA, gL_sQ, gL_sD]; assumption) | simp [kd_sI, kd_sR, kd_sA, kd_sQ, kd_sL, kd_sD, ln_sI, ln_sR, ln_sA, ln_sQ, ln_sL, ln_sD, gI_sR, gI_sA, gI_sQ, gI_sL, gI_sD, gR_sI, gR_sA, gR_sQ, gR_sL, gR_sD, gA_sI, gA_sR, gA_sQ, gA_sL, gA_sD, gQ_sI, gQ_sR, gQ_sA, gQ_sL, gQ_sD, gL_sI, gL_sR, gL_sA, gL_sQ, gL_sD, kd_nO, kd_nA, *]) (T := TJ7) (N := 4) rfl (by first | assumption | omega) (by first | assumption | omega) (by first | assumption | omega) (Nat.le_of_ble_eq_true rfl) ?_
  refine s_sbCharAt6 (by omega) h hi ?_
  show AW mJ7_charAt G d Qr Qx _ _ _ 5 _ _
  refine r_ireturn dJ7_charAt_5 rfl (by first | rfl | assumption | exact vp_nar_int _ | exact pk_nc _) ?_
  exact hQ
theorem s_canEncode {c : Nat} (hc : c < 128) (hQ : Qr (some (vI (nI 1))) H) : AMet G d 0 0 yJ20_canEncode wJ20_canEncode H [vI (nI c)] Qr Qx := by
  refine AMet.of (M := mJ20_canEncode) (maxL := 1) (by first | rfl | decide +kernel) rfl (Nat.le_of_ble_eq_true rfl) ?_
  show AW mJ20_canEncode _ _ _ _ _ _ _ 0 [some (vI (nI c))] []
  refine r_iload_n (i := 0) dJ20_canEncode_0 rfl rfl ?_
  refine r_sipush (v := nI 255) dJ20_canEncode_1 (by decide) ?_
  refine r_icmp_gt (tgt := 11) dJ20_canEncode_4 (by decide) (fun h4 => ?_) (fun h4 => ?_)
  · exact absurd h4 (nI_nlt (by omega) (by omega))
  · refine r_iconst (v := nI 1) dJ20_canEncode_7 (by decide) ?_
    refine r_goto (tgt := 12) dJ20_canEncode_8 (by decide) ?_
    refine r_ireturn dJ20_canEncode_12 rfl (by first | rfl | assumption | exact vp_nar_int _ | exact pk_nc _) ?_
    exact hQ
theorem s_newCap {a c c2 v : Nat} (hd : 2 ≤ d) (h1 : kd H a = 23) (h2 : gI H 110 a = nI 0) (h4 : gR H 109 a = some v) (hk : kd H v = 2109) (hl : ln H v = c) (hc : (c = 16 ∧ c2 = 34) ∨ (c = 34 ∧ c2 = 70)) (hQ : Qr (some (vI (nI c2))) H) : AMet G d 0 0 yJ6_newCapacity wJ6_newCapacity H [vR (some a), vI (nI (c + 1))] Qr Qx := by
  have e1 : nI (c + 1) - nI c = nI 1 := by rw [nI_sub (by omega)]; congr 1; omega
  have e2 : (nI 2 <<< (nI 0 &&& 31) : Int32) = nI 2 := by decide
  refine AMet.of (M := mJ6_newCapacity) (maxL := 6) (by first | rfl | decide +kernel) rfl (Nat.le_of_ble_eq_true rfl) ?_
  show AW mJ6_newCapacity _ _ _ _ _ _ _ 0 [some (vR (some a)), some (vI (nI (c + 1))), none, none, none, none] []
  refine r_aload_n (i := 0) dJ6_newCapacity_0 rfl rfl ?_
  refine r_getR dJ6_newCapacity_1 fR_J6_15_J7 (by first | assumption | (simp only [kd_sI, kd_sR, kd_sA, kd_sQ, kd_sL, kd_sD, ln_sI, ln_sR, ln_sA, ln_sQ, ln_sL, ln_sD, gI_sR, gI_sA, gI_sQ, gI_sL, gI_sD, gR_sI, gR_sA, gR_sQ, gR_sL, gR_sD, gA_sI, gA_sR, gA_sQ, gA_sL, gA_sD, gQ_sI, gQ_sR, gQ_sA, gQ_sL, gQ_sD, gL_sI, gL_sR, gL_sA, gL_sQ, gL_sD]; assumption) | simp [kd_sI, kd_sR, kd_sA, kd_sQ, kd_sL, kd_sD, ln_sI, ln_sR, ln_sA, ln_sQ, ln_sL, ln_sD, gI_sR, gI_sA, gI_sQ, gI_sL, gI_sD, gR_sI, gR_sA, gR_sQ, gR_sL, gR_sD, gA_sI, gA_sR, gA_sQ, gA_sL, gA_sD, gQ_sI, gQ_sR, gQ_sA, gQ_sL, gQ_sD, gL_sI, gL_sR, gL_sA, gL_sQ, gL_sD, kd_nO, kd_nA, *]) (by first | assumption | exact gI_sIs | exact gR_sRs | with_reducible rfl | (simp only [kd_sI, kd_sR, kd_sA, kd_sQ, kd_sL, kd_sD, ln_sI, ln_sR, ln_sA, ln_sQ, ln_sL, ln_sD, gI_sR, gI_sA, gI_sQ, gI_sL, gI_sD, gR_sI, gR_sA, gR_sQ, gR_sL, gR_sD, gA_sI, gA_sR, gA_sQ, gA_sL, gA_sD, gQ_sI, gQ_sR, gQ_sA, gQ_sL, gQ_sD, gL_sI, gL_sR, gL_sA, gL_sQ, gL_sD]; first | done | assumption | with_reducible rfl) | rfl) ?_
  refine r_alen dJ6_newCapacity_4 (by first | (refine ⟨?_, ?_⟩ <;> simp [kd_sI, kd_sR, kd_sA, kd_sQ, kd_sL, kd_sD, ln_sI, ln_sR, ln_sA, ln_sQ, ln_sL, ln_sD, gI_sR, gI_sA, gI_sQ, gI_sL, gI_sD, gR_sI, gR_sA, gR_sQ, gR_sL, gR_sD, gA_sI, gA_sR, gA_sQ, gA_sL, gA_sD, gQ_sI, gQ_sR, gQ_sA, gQ_sL, gQ_sD, gL_sI, gL_sR, gL_sA, gL_sQ, gL_sD, *]; done) | omega) (by first | assumption | exact gI_sIs | exact gR_sRs | with_reducible rfl | (simp only [kd_sI, kd_sR, kd_sA, kd_sQ, kd_sL, kd_sD, ln_sI, ln_sR, ln_sA, ln_sQ, ln_sL, ln_sD, gI_sR, gI_sA, gI_sQ, gI_sL, gI_sD, gR_sI, gR_sA, gR_sQ, gR_sL, gR_sD, gA_sI, gA_sR, gA_sQ, gA_sL, gA_sD, gQ_sI, gQ_sR, gQ_sA, gQ_sL, gQ_sD, gL_sI, gL_sR, gL_sA, gL_sQ, gL_sD]; first | done | assumption | with_reducible rfl) | rfl) ?_
  refine r_istore_n (i := 2) dJ6_newCapacity_5 rfl (Nat.le_of_ble_eq_true rfl) (by simp only [lset]; rfl) ?_
  refine r_iload_n (i := 1) dJ6_newCapacity_6 rfl rfl ?_
  refine r_aload_n (i := 0) dJ6_newCapacity_7 rfl rfl ?_
  refine r_getI dJ6_newCapacity_8 fR_J6_22_J7 (by first | assumption | (simp only [kd_sI, kd_sR, kd_sA, kd_sQ, kd_sL, kd_sD, ln_sI, ln_sR, ln_sA, ln_sQ, ln_sL, ln_sD, gI_sR, gI_sA, gI_sQ, gI_sL, gI_sD, gR_sI, gR_sA, gR_sQ, gR_sL, gR_sD, gA_sI, gA_sR, gA_sQ, gA_sL, gA_sD, gQ_sI, gQ_sR, gQ_sA, gQ_sL, gQ_sD, gL_sI, gL_sR, gL_sA, gL_sQ, gL_sD]; assumption) | simp [kd_sI, kd_sR, kd_sA, kd_sQ, kd_sL, kd_sD, ln_sI, ln_sR, ln_sA, ln_sQ, ln_sL, ln_sD, gI_sR, gI_sA, gI_sQ, gI_sL, gI_sD, gR_sI, gR_sA, gR_sQ, gR_sL, gR_sD, gA_sI, gA_sR, gA_sQ, gA_sL, gA_sD, gQ_sI, gQ_sR, gQ_sA, gQ_sL, gQ_sD, gL_sI, gL_sR, gL_sA, gL_sQ, gL_sD, kd_nO, kd_nA, *]) (by first | assumption | exact gI_sIs | exact gR_sRs | with_reducible rfl | (simp only [kd_sI, kd_sR, kd_sA, kd_sQ, kd_sL, kd_sD, ln_sI, ln_sR, ln_sA, ln_sQ, ln_sL, ln_sD, gI_sR, gI_sA, gI_sQ, gI_sL, gI_sD, gR_sI, gR_sA, gR_sQ, gR_sL, gR_sD, gA_sI, gA_sR, gA_sQ, gA_sL, gA_sD, gQ_sI, gQ_sR, gQ_sA, gQ_sL, gQ_sD, gL_sI, gL_sR, gL_sA, gL_sQ, gL_sD]; first | done | assumption | with_reducible rfl) | rfl) ?_
  refine r_ishl dJ6_newCapacity_11 ?_
  rw [shl0]
  refine r_istore_n (i := 3) dJ6_newCapacity_12 rfl (Nat.le_of_ble_eq_true rfl) (by simp only [lset]; rfl) ?_
  refine r_iload_n (i := 3) dJ6_newCapacity_13 rfl rfl ?_
  refine r_iload_n (i := 2) dJ6_newCapacity_14 rfl rfl ?_
  refine r_isub dJ6_newCapacity_15 ?_
  rw [e1]
  refine r_istore dJ6_newCapacity_16 (Nat.le_of_ble_eq_true rfl) (by simp only [lset]; rfl) ?_
  refine r_iload_n (i := 2) dJ6_newCapacity_18 rfl rfl ?_
  refine r_iload dJ6_newCapacity_19 rfl ?_
  refine r_iload_n (i := 2) dJ6_newCapacity_21 rfl rfl ?_
  refine r_iconst (v := nI 2) dJ6_newCapacity_22 (by decide) ?_
  refine r_aload_n (i := 0) dJ6_newCapacity_23 rfl rfl ?_
  refine r_getI dJ6_newCapacity_24 fR_J6_22_J7 (by first | assumption | (simp only [kd_sI, kd_sR, kd_sA, kd_sQ, kd_sL, kd_sD, ln_sI, ln_sR, ln_sA, ln_sQ, ln_sL, ln_sD, gI_sR, gI_sA, gI_sQ, gI_sL, gI_sD, gR_sI, gR_sA, gR_sQ, gR_sL, gR_sD, gA_sI, gA_sR, gA_sQ, gA_sL, gA_sD, gQ_sI, gQ_sR, gQ_sA, gQ_sL, gQ_sD, gL_sI, gL_sR, gL_sA, gL_sQ, gL_sD]; assumption) | simp [kd_sI, kd_sR, kd_sA, kd_sQ, kd_sL, kd_sD, ln_sI, ln_sR, ln_sA, ln_sQ, ln_sL, ln_sD, gI_sR, gI_sA, gI_sQ, gI_sL, gI_sD, gR_sI, gR_sA, gR_sQ, gR_sL, gR_sD, gA_sI, gA_sR, gA_sQ, gA_sL, gA_sD, gQ_sI, gQ_sR, gQ_sA, gQ_sL, gQ_sD, gL_sI, gL_sR, gL_sA, gL_sQ, gL_sD, kd_nO, kd_nA, *]) (by first | assumption | exact gI_sIs | exact gR_sRs | with_reducible rfl | (simp only [kd_sI, kd_sR, kd_sA, kd_sQ, kd_sL, kd_sD, ln_sI, ln_sR, ln_sA, ln_sQ, ln_sL, ln_sD, gI_sR, gI_sA, gI_sQ, gI_sL, gI_sD, gR_sI, gR_sA, gR_sQ, gR_sL, gR_sD, gA_sI, gA_sR, gA_sQ, gA_sL, gA_sD, gQ_sI, gQ_sR, gQ_sA, gQ_sL, gQ_sD, gL_sI, gL_sR, gL_sA, gL_sQ, gL_sD]; first | done | assumption | with_reducible rfl) | rfl) ?_
  refine r_ishl dJ6_newCapacity_27 ?_
  rw [e2]
  refine r_iadd dJ6_newCapacity_28 ?_
  try simp only [nI_add]
  refine r_callS (As := [_, _, _]) (mc' := 0) (ms' := 0) dJ6_newCapacity_29 k_J6_114 rfl (by first | assumption | omega) (by first | assumption | omega) (by first | assumption | omega) (Nat.le_of_ble_eq_true rfl) ?_
  refine s_newLength (m := c2) (by omega) ?_ (by omega) (by omega) (by omega) (by omega) ?_
  · rw [if_pos (by omega)]
    omega
  show AW mJ6_newCapacity G d Qr Qx _ _ _ 32 _ _
  refine r_istore dJ6_newCapacity_32 (Nat.le_of_ble_eq_true rfl) (by simp only [lset]; rfl) ?_
  refine r_iload dJ6_newCapacity_34 rfl ?_
  refine r_ldc dJ6_newCapacity_36 q465 ?_
  refine r_icmp_ne (tgt := 51) dJ6_newCapacity_38 (by decide) (fun h38 => ?_) (fun h38 => ?_)
  · refine r_iload dJ6_newCapacity_51 rfl ?_
    refine r_aload_n (i := 0) dJ6_newCapacity_53 rfl rfl ?_
    refine r_getI dJ6_newCapacity_54 fR_J6_22_J7 (by first | assumption | (simp only [kd_sI, kd_sR, kd_sA, kd_sQ, kd_sL, kd_sD, ln_sI, ln_sR, ln_sA, ln_sQ, ln_sL, ln_sD, gI_sR, gI_sA, gI_sQ, gI_sL, gI_sD, gR_sI, gR_sA, gR_sQ, gR_sL, gR_sD, gA_sI, gA_sR, gA_sQ, gA_sL, gA_sD, gQ_sI, gQ_sR, gQ_sA, gQ_sL, gQ_sD, gL_sI, gL_sR, gL_sA, gL_sQ, gL_sD]; assumption) | simp [kd_sI, kd_sR, kd_sA, kd_sQ, kd_sL, kd_sD, ln_sI, ln_sR, ln_sA, ln_sQ, ln_sL, ln_sD, gI_sR, gI_sA, gI_sQ, gI_sL, gI_sD, gR_sI, gR_sA, gR_sQ, gR_sL, gR_sD, gA_sI, gA_sR, gA_sQ, gA_sL, gA_sD, gQ_sI, gQ_sR, gQ_sA, gQ_sL, gQ_sD, gL_sI, gL_sR, gL_sA, gL_sQ, gL_sD, kd_nO, kd_nA, *]) (by first | assumption | exact gI_sIs | exact gR_sRs | with_reducible rfl | (simp only [kd_sI, kd_sR, kd_sA, kd_sQ, kd_sL, kd_sD, ln_sI, ln_sR, ln_sA, ln_sQ, ln_sL, ln_sD, gI_sR, gI_sA, gI_sQ, gI_sL, gI_sD, gR_sI, gR_sA, gR_sQ, gR_sL, gR_sD, gA_sI, gA_sR, gA_sQ, gA_sL, gA_sD, gQ_sI, gQ_sR, gQ_sA, gQ_sL, gQ_sD, gL_sI, gL_sR, gL_sA, gL_sQ, gL_sD]; first | done | assumption | with_reducible rfl) | rfl) ?_
    refine r_ishr dJ6_newCapacity_57 ?_
    rw [shr0]
    refine r_ireturn dJ6_newCapacity_58 rfl (by first | rfl | assumption | exact vp_nar_int _ | exact pk_nc _) ?_
    exact hQ
  · exact absurd h38 (nI_ne (a := c2) (b := 2147483647) (by omega) (by omega) (by decide))
/-- a longer copy of a byte array -/
theorem s_copyOfB {c m v : Nat} {cs : Nat → Nat} {n : Nat} (hd : 2 ≤ d) (hk : kd H v = 2109) (hl : ln H v = c) (hcm : c < m) (hm : m < 1000) (hn : n = c) (hb : BA H 2109 v n cs) (hQ : ∀ q, kd H q = 0 → Qr (some (vR (some q))) (sA (nA H q 2109 m) 2109 q (va_cpy (gA H 2109 v) (fun _ => 0) 0 0 c))) : AMet G d 1 m yJ23_copyOf wJ23_copyOf H [vR (some v), vI (nI m)] Qr Qx := by
  subst hn
  refine AMet.of (M := mJ23_copyOf) (maxL := 3) (by first | rfl | decide +kernel) rfl (Nat.le_of_ble_eq_true rfl) ?_
  show AW mJ23_copyOf _ _ _ _ _ _ _ 0 [some (vR (some v)), some (vI (nI m)), none] []
  refine r_iload_n (i := 1) dJ23_copyOf_0 rfl rfl ?_
  refine r_aload_n (i := 0) dJ23_copyOf_1 rfl rfl ?_
  refine r_alen dJ23_copyOf_2 (by first | (refine ⟨?_, ?_⟩ <;> simp [kd_sI, kd_sR, kd_sA, kd_sQ, kd_sL, kd_sD, ln_sI, ln_sR, ln_sA, ln_sQ, ln_sL, ln_sD, gI_sR, gI_sA, gI_sQ, gI_sL, gI_sD, gR_sI, gR_sA, gR_sQ, gR_sL, gR_sD, gA_sI, gA_sR, gA_sQ, gA_sL, gA_sD, gQ_sI, gQ_sR, gQ_sA, gQ_sL, gQ_sD, gL_sI, gL_sR, gL_sA, gL_sQ, gL_sD, *]; done) | omega) (by first | assumption | exact gI_sIs | exact gR_sRs | with_reducible rfl | (simp only [kd_sI, kd_sR, kd_sA, kd_sQ, kd_sL, kd_sD, ln_sI, ln_sR, ln_sA, ln_sQ, ln_sL, ln_sD, gI_sR, gI_sA, gI_sQ, gI_sL, gI_sD, gR_sI, gR_sA, gR_sQ, gR_sL, gR_sD, gA_sI, gA_sR, gA_sQ, gA_sL, gA_sD, gQ_sI, gQ_sR, gQ_sA, gQ_sL, gQ_sD, gL_sI, gL_sR, gL_sA, gL_sQ, gL_sD]; first | done | assumption | with_reducible rfl) | rfl) ?_
  refine r_icmp_ne (tgt := 14) dJ23_copyOf_3 (by decide) (fun h3 => ?_) (fun h3 => ?_)
  · refine r_iload_n (i := 1) dJ23_copyOf_14 rfl rfl ?_
    refine r_new_byte 2109 dJ23_copyOf_15 q302 (by decide) (by first | with_reducible rfl | assumption | (simp only [nI_add, pk_mul, nI_1]; with_reducible rfl)) (by first | assumption | omega) (by first | assumption | omega) (by first | assumption | omega) (fun q15 hq15 => ?_)
    have hqv : v ≠ q15 := fun h => by rw [h, hq15] at hk; cases hk
    refine AW.name (fun H1 hH1 => ?_)
    have k1 : kd H1 v = 2109 := by rw [hH1, kd_nA, if_neg hqv]; exact hk
    have k2 : kd H1 q15 = 2109 := by rw [hH1, kd_nA, if_pos rfl]
    have l1 : ln H1 v = n := by rw [hH1, ln_nA, if_neg hqv]; exact hl
    have l2 : ln H1 q15 = m := by rw [hH1, ln_nA, if_pos rfl]
    have g1 : gA H1 2109 v = gA H 2109 v := by rw [hH1, gA_nA, if_neg (fun h => hqv h.2)]
    have g2 : gA H1 2109 q15 = fun _ => 0 := by rw [hH1, gA_nA, if_pos ⟨rfl, rfl⟩]
    refine r_astore_n (i := 2) dJ23_copyOf_17 rfl (Nat.le_of_ble_eq_true rfl) (by simp only [lset]; rfl) ?_
    refine r_aload_n (i := 0) dJ23_copyOf_18 rfl rfl ?_
    refine r_iconst (v := nI 0) dJ23_copyOf_19 (by decide) ?_
    refine r_aload_n (i := 2) dJ23_copyOf_20 rfl rfl ?_
    refine r_iconst (v := nI 0) dJ23_copyOf_21 (by decide) ?_
    refine r_aload_n (i := 0) dJ23_copyOf_22 rfl rfl ?_
    refine r_alen dJ23_copyOf_23 (by first | (refine ⟨?_, ?_⟩ <;> simp [kd_sI, kd_sR, kd_sA, kd_sQ, kd_sL, kd_sD, ln_sI, ln_sR, ln_sA, ln_sQ, ln_sL, ln_sD, gI_sR, gI_sA, gI_sQ, gI_sL, gI_sD, gR_sI, gR_sA, gR_sQ, gR_sL, gR_sD, gA_sI, gA_sR, gA_sQ, gA_sL, gA_sD, gQ_sI, gQ_sR, gQ_sA, gQ_sL, gQ_sD, gL_sI, gL_sR, gL_sA, gL_sQ, gL_sD, *]; done) | omega) (by first | assumption | exact gI_sIs | exact gR_sRs | with_reducible rfl | (simp only [kd_sI, kd_sR, kd_sA, kd_sQ, kd_sL, kd_sD, ln_sI, ln_sR, ln_sA, ln_sQ, ln_sL, ln_sD, gI_sR, gI_sA, gI_sQ, gI_sL, gI_sD, gR_sI, gR_sA, gR_sQ, gR_sL, gR_sD, gA_sI, gA_sR, gA_sQ, gA_sL, gA_sD, gQ_sI, gQ_sR, gQ_sA, gQ_sL, gQ_sD, gL_sI, gL_sR, gL_sA, gL_sQ, gL_sD]; first | done | assumption | with_reducible rfl) | rfl) ?_
    refine r_iload_n (i := 1) dJ23_copyOf_24 rfl rfl ?_
    refine r_mmin dJ23_copyOf_25 q476 (by first | assumption | omega) (Nat.le_of_ble_eq_true rfl) ?_
    have em : (if nI m < nI n then nI m else nI n) = nI n := if_neg (nI_nlt (by omega) (by omega))
    rw [em]
    refine r_copy_byte dJ23_copyOf_28 q479 (by first | assumption | (simp only [kd_sI, kd_sR, kd_sA, kd_sQ, kd_sL, kd_sD, ln_sI, ln_sR, ln_sA, ln_sQ, ln_sL, ln_sD, gI_sR, gI_sA, gI_sQ, gI_sL, gI_sD, gR_sI, gR_sA, gR_sQ, gR_sL, gR_sD, gA_sI, gA_sR, gA_sQ, gA_sL, gA_sD, gQ_sI, gQ_sR, gQ_sA, gQ_sL, gQ_sD, gL_sI, gL_sR, gL_sA, gL_sQ, gL_sD]; assumption) | simp [kd_sI, kd_sR, kd_sA, kd_sQ, kd_sL, kd_sD, ln_sI, ln_sR, ln_sA, ln_sQ, ln_sL, ln_sD, gI_sR, gI_sA, gI_sQ, gI_sL, gI_sD, gR_sI, gR_sA, gR_sQ, gR_sL, gR_sD, gA_sI, gA_sR, gA_sQ, gA_sL, gA_sD, gQ_sI, gQ_sR, gQ_sA, gQ_sL, gQ_sD, gL_sI, gL_sR, gL_sA, gL_sQ, gL_sD, kd_nO, kd_nA, *]) (by first | decide | assumption) (by first | assumption | (simp only [kd_sI, kd_sR, kd_sA, kd_sQ, kd_sL, kd_sD, ln_sI, ln_sR, ln_sA, ln_sQ, ln_sL, ln_sD, gI_sR, gI_sA, gI_sQ, gI_sL, gI_sD, gR_sI, gR_sA, gR_sQ, gR_sL, gR_sD, gA_sI, gA_sR, gA_sQ, gA_sL, gA_sD, gQ_sI, gQ_sR, gQ_sA, gQ_sL, gQ_sD, gL_sI, gL_sR, gL_sA, gL_sQ, gL_sD]; assumption) | simp [kd_sI, kd_sR, kd_sA, kd_sQ, kd_sL, kd_sD, ln_sI, ln_sR, ln_sA, ln_sQ, ln_sL, ln_sD, gI_sR, gI_sA, gI_sQ, gI_sL, gI_sD, gR_sI, gR_sA, gR_sQ, gR_sL, gR_sD, gA_sI, gA_sR, gA_sQ, gA_sL, gA_sD, gQ_sI, gQ_sR, gQ_sA, gQ_sL, gQ_sD, gL_sI, gL_sR, gL_sA, gL_sQ, gL_sD, kd_nO, kd_nA, *]) (by first | decide | assumption) (by first | assumption | exact gI_sIs | exact gR_sRs | with_reducible rfl | (simp only [kd_sI, kd_sR, kd_sA, kd_sQ, kd_sL, kd_sD, ln_sI, ln_sR, ln_sA, ln_sQ, ln_sL, ln_sD, gI_sR, gI_sA, gI_sQ, gI_sL, gI_sD, gR_sI, gR_sA, gR_sQ, gR_sL, gR_sD, gA_sI, gA_sR, gA_sQ, gA_sL, gA_sD, gQ_sI, gQ_sR, gQ_sA, gQ_sL, gQ_sD, gL_sI, gL_sR, gL_sA, gL_sQ, gL_sD]; first | done | assumption | with_reducible rfl) | rfl) (by first | assumption | exact gI_sIs | exact gR_sRs | with_reducible rfl | (simp only [kd_sI, kd_sR, kd_sA, kd_sQ, kd_sL, kd_sD, ln_sI, ln_sR, ln_sA, ln_sQ, ln_sL, ln_sD, gI_sR, gI_sA, gI_sQ, gI_sL, gI_sD, gR_sI, gR_sA, gR_sQ, gR_sL, gR_sD, gA_sI, gA_sR, gA_sQ, gA_sL, gA_sD, gQ_sI, gQ_sR, gQ_sA, gQ_sL, gQ_sD, gL_sI, gL_sR, gL_sA, gL_sQ, gL_sD]; first | done | assumption | with_reducible rfl) | rfl) (by first | with_reducible rfl | assumption | (simp only [nI_add, pk_mul, nI_1]; with_reducible rfl)) (by first | with_reducible rfl | assumption | (simp only [nI_add, pk_mul, nI_1]; with_reducible rfl)) (by first | with_reducible rfl | assumption | (simp only [nI_add, pk_mul, nI_1]; with_reducible rfl)) (by first | assumption | omega) (by first | assumption | omega) (by first | assumption | omega) (by first | assumption | omega) ?_ (by first | assumption | omega) (Nat.le_of_ble_eq_true rfl) ?_
    · intro x hx
      rw [g1, Nat.zero_add, (hb.2 x hx).1]
      exact cd_fit _ (hb.2 x hx).2
    · refine r_aload_n (i := 2) dJ23_copyOf_31 rfl rfl ?_
      refine r_areturn dJ23_copyOf_32 rfl (by first | exact Or.inl ⟨_, rfl⟩ | exact Or.inr ⟨_, rfl⟩) ?_
      rw [g1, g2, hH1]
      exact hQ q15 hq15
  · exact absurd h3 (nI_ne (by omega) (by omega) (by omega))
/-- the set that a builder's method may change -/
theorem s_ensure {a n v : Nat} {cs : Nat → Nat} (hd : 3 ≤ d) (h : SB H a n cs v) (hn : n < 60) (hQ : ∀ H' v', Ks (SL a v) H H' → (v' = v ∨ kd H v' = 0) → SB H' a n cs v' → n < ln H' v' → Qr none H') : AMet G d 1 70 yJ6_ensureCapacityInternal wJ6_ensureCapacityInternal H [vR (some a), vI (nI (n + 1))] Qr Qx := by
  have h0 := h
  obtain ⟨a1, a2, a3, a4, ⟨a5, a6⟩, a7, a8, a9⟩ := h
  obtain ⟨c, hc⟩ : ∃ c, ln H v = c := ⟨_, rfl⟩
  rw [hc] at a7 a8
  have hc9 : c < 100 := by omega
  have hav : a ≠ v := ne_of_kd a1 a5 (by decide)
  refine AMet.of (M := mJ6_ensureCapacityInternal) (maxL := 3) (by first | rfl | decide +kernel) rfl (Nat.le_of_ble_eq_true rfl) ?_
  show AW mJ6_ensureCapacityInternal _ _ _ _ _ _ _ 0 [some (vR (some a)), some (vI (nI (n + 1))), none] []
  refine r_aload_n (i := 0) dJ6_ensureCapacityInternal_0 rfl rfl ?_
  refine r_getR dJ6_ensureCapacityInternal_1 fR_J6_15_J7 (by first | assumption | (simp only [kd_sI, kd_sR, kd_sA, kd_sQ, kd_sL, kd_sD, ln_sI, ln_sR, ln_sA, ln_sQ, ln_sL, ln_sD, gI_sR, gI_sA, gI_sQ, gI_sL, gI_sD, gR_sI, gR_sA, gR_sQ, gR_sL, gR_sD, gA_sI, gA_sR, gA_sQ, gA_sL, gA_sD, gQ_sI, gQ_sR, gQ_sA, gQ_sL, gQ_sD, gL_sI, gL_sR, gL_sA, gL_sQ, gL_sD]; assumption) | simp [kd_sI, kd_sR, kd_sA, kd_sQ, kd_sL, kd_sD, ln_sI, ln_sR, ln_sA, ln_sQ, ln_sL, ln_sD, gI_sR, gI_sA, gI_sQ, gI_sL, gI_sD, gR_sI, gR_sA, gR_sQ, gR_sL, gR_sD, gA_sI, gA_sR, gA_sQ, gA_sL, gA_sD, gQ_sI, gQ_sR, gQ_sA, gQ_sL, gQ_sD, gL_sI, gL_sR, gL_sA, gL_sQ, gL_sD, kd_nO, kd_nA, *]) (by first | assumption | exact gI_sIs | exact gR_sRs | with_reducible rfl | (simp only [kd_sI, kd_sR, kd_sA, kd_sQ, kd_sL, kd_sD, ln_sI, ln_sR, ln_sA, ln_sQ, ln_sL, ln_sD, gI_sR, gI_sA, gI_sQ, gI_sL, gI_sD, gR_sI, gR_sA, gR_sQ, gR_sL, gR_sD, gA_sI, gA_sR, gA_sQ, gA_sL, gA_sD, gQ_sI, gQ_sR, gQ_sA, gQ_sL, gQ_sD, gL_sI, gL_sR, gL_sA, gL_sQ, gL_sD]; first | done | assumption | with_reducible rfl) | rfl) ?_
  refine r_alen dJ6_ensureCapacityInternal_4 (by first | (refine ⟨?_, ?_⟩ <;> simp [kd_sI, kd_sR, kd_sA, kd_sQ, kd_sL, kd_sD, ln_sI, ln_sR, ln_sA, ln_sQ, ln_sL, ln_sD, gI_sR, gI_sA, gI_sQ, gI_sL, gI_sD, gR_sI, gR_sA, gR_sQ, gR_sL, gR_sD, gA_sI, gA_sR, gA_sQ, gA_sL, gA_sD, gQ_sI, gQ_sR, gQ_sA, gQ_sL, gQ_sD, gL_sI, gL_sR, gL_sA, gL_sQ, gL_sD, *]; done) | omega) (by first | assumption | exact gI_sIs | exact gR_sRs | with_reducible rfl | (simp only [kd_sI, kd_sR, kd_sA, kd_sQ, kd_sL, kd_sD, ln_sI, ln_sR, ln_sA, ln_sQ, ln_sL, ln_sD, gI_sR, gI_sA, gI_sQ, gI_sL, gI_sD, gR_sI, gR_sA, gR_sQ, gR_sL, gR_sD, gA_sI, gA_sR, gA_sQ, gA_sL, gA_sD, gQ_sI, gQ_sR, gQ_sA, gQ_sL, gQ_sD, gL_sI, gL_sR, gL_sA, gL_sQ, gL_sD]; first | done | assumption | with_reducible rfl) | rfl) ?_
  refine r_aload_n (i := 0) dJ6_ensureCapacityInternal_5 rfl rfl ?_
  refine r_getI dJ6_ensureCapacityInternal_6 fR_J6_22_J7 (by first | assumption | (simp only [kd_sI, kd_sR, kd_sA, kd_sQ, kd_sL, kd_sD, ln_sI, ln_sR, ln_sA, ln_sQ, ln_sL, ln_sD, gI_sR, gI_sA, gI_sQ, gI_sL, gI_sD, gR_sI, gR_sA, gR_sQ, gR_sL, gR_sD, gA_sI, gA_sR, gA_sQ, gA_sL, gA_sD, gQ_sI, gQ_sR, gQ_sA, gQ_sL, gQ_sD, gL_sI, gL_sR, gL_sA, gL_sQ, gL_sD]; assumption) | simp [kd_sI, kd_sR, kd_sA, kd_sQ, kd_sL, kd_sD, ln_sI, ln_sR, ln_sA, ln_sQ, ln_sL, ln_sD, gI_sR, gI_sA, gI_sQ, gI_sL, gI_sD, gR_sI, gR_sA, gR_sQ, gR_sL, gR_sD, gA_sI, gA_sR, gA_sQ, gA_sL, gA_sD, gQ_sI, gQ_sR, gQ_sA, gQ_sL, gQ_sD, gL_sI, gL_sR, gL_sA, gL_sQ, gL_sD, kd_nO, kd_nA, *]) (by first | assumption | exact gI_sIs | exact gR_sRs | with_reducible rfl | (simp only [kd_sI, kd_sR, kd_sA, kd_sQ, kd_sL, kd_sD, ln_sI, ln_sR, ln_sA, ln_sQ, ln_sL, ln_sD, gI_sR, gI_sA, gI_sQ, gI_sL, gI_sD, gR_sI, gR_sA, gR_sQ, gR_sL, gR_sD, gA_sI, gA_sR, gA_sQ, gA_sL, gA_sD, gQ_sI, gQ_sR, gQ_sA, gQ_sL, gQ_sD, gL_sI, gL_sR, gL_sA, gL_sQ, gL_sD]; first | done | assumption | with_reducible rfl) | rfl) ?_
  refine r_ishr dJ6_ensureCapacityInternal_9 ?_
  rw [shr0]
  refine r_istore_n (i := 2) dJ6_ensureCapacityInternal_10 rfl (Nat.le_of_ble_eq_true rfl) (by simp only [lset]; rfl) ?_
  refine r_iload_n (i := 1) dJ6_ensureCapacityInternal_11 rfl rfl ?_
  refine r_iload_n (i := 2) dJ6_ensureCapacityInternal_12 rfl rfl ?_
  refine r_isub dJ6_ensureCapacityInternal_13 ?_
  refine r_if_le (tgt := 38) dJ6_ensureCapacityInternal_14 (by decide) (fun h14 => ?_) (fun h14 => ?_)
  · have hlt : n < c := by
      rcases Nat.lt_or_ge n c with q | q
      · exact q
      · have e : nI (n + 1) - nI c = nI 1 := by rw [nI_sub (by omega)]; congr 1; omega
        rw [e] at h14
        exact absurd h14 (by decide)
    refine r_return dJ6_ensureCapacityInternal_38 rfl ?_
    exact hQ H v Ks.rf (Or.inl rfl) h0 (by rw [hc]; exact hlt)
  · have hnc : n = c := by
      rcases Nat.lt_or_ge n c with q | q
      · exfalso
        have e : nI c = nI (n + 1) + nI (c - n - 1) := by rw [nI_add]; congr 1; omega
        apply h14
        have hall : ∀ x, x < 100 → ∀ y, y < 100 → x ≤ y → nI x - nI y ≤ 0 := by decide
        exact hall (n + 1) (by omega) c (by omega) (by omega)
      · omega
    subst hnc
    obtain ⟨c2, hc2⟩ : ∃ c2, (n = 16 ∧ c2 = 34) ∨ (n = 34 ∧ c2 = 70) := by
      rcases a8 with q | q | q
      · exact ⟨34, Or.inl ⟨q, rfl⟩⟩
      · exact ⟨70, Or.inr ⟨q, rfl⟩⟩
      · omega
    refine r_aload_n (i := 0) dJ6_ensureCapacityInternal_17 rfl rfl ?_
    refine r_aload_n (i := 0) dJ6_ensureCapacityInternal_18 rfl rfl ?_
    refine r_getR dJ6_ensureCapacityInternal_19 fR_J6_15_J7 (by first | assumption | (simp only [kd_sI, kd_sR, kd_sA, kd_sQ, kd_sL, kd_sD, ln_sI, ln_sR, ln_sA, ln_sQ, ln_sL, ln_sD, gI_sR, gI_sA, gI_sQ, gI_sL, gI_sD, gR_sI, gR_sA, gR_sQ, gR_sL, gR_sD, gA_sI, gA_sR, gA_sQ, gA_sL, gA_sD, gQ_sI, gQ_sR, gQ_sA, gQ_sL, gQ_sD, gL_sI, gL_sR, gL_sA, gL_sQ, gL_sD]; assumption) | simp [kd_sI, kd_sR, kd_sA, kd_sQ, kd_sL, kd_sD, ln_sI, ln_sR, ln_sA, ln_sQ, ln_sL, ln_sD, gI_sR, gI_sA, gI_sQ, gI_sL, gI_sD, gR_sI, gR_sA, gR_sQ, gR_sL, gR_sD, gA_sI, gA_sR, gA_sQ, gA_sL, gA_sD, gQ_sI, gQ_sR, gQ_sA, gQ_sL, gQ_sD, gL_sI, gL_sR, gL_sA, gL_sQ, gL_sD, kd_nO, kd_nA, *]) (by first | assumption | exact gI_sIs | exact gR_sRs | with_reducible rfl | (simp only [kd_sI, kd_sR, kd_sA, kd_sQ, kd_sL, kd_sD, ln_sI, ln_sR, ln_sA, ln_sQ, ln_sL, ln_sD, gI_sR, gI_sA, gI_sQ, gI_sL, gI_sD, gR_sI, gR_sA, gR_sQ, gR_sL, gR_sD, gA_sI, gA_sR, gA_sQ, gA_sL, gA_sD, gQ_sI, gQ_sR, gQ_sA, gQ_sL, gQ_sD, gL_sI, gL_sR, gL_sA, gL_sQ, gL_sD]; first | done | assumption | with_reducible rfl) | rfl) ?_
    refine r_aload_n (i := 0) dJ6_ensureCapacityInternal_22 rfl rfl ?_
    refine r_iload_n (i := 1) dJ6_ensureCapacityInternal_23 rfl rfl ?_
    refine r_callUP (As := [_]) (mc' := 0) (ms' := 0) dJ6_ensureCapacityInternal_24 k_J6_104_P rfl (by first | assumption | (simp only [kd_sI, kd_sR, kd_sA, kd_sQ, kd_sL, kd_sD, ln_sI, ln_sR, ln_sA, ln_sQ, ln_sL, ln_sD, gI_sR, gI_sA, gI_sQ, gI_sL, gI_sD, gR_sI, gR_sA, gR_sQ, gR_sL, gR_sD, gA_sI, gA_sR, gA_sQ, gA_sL, gA_sD, gQ_sI, gQ_sR, gQ_sA, gQ_sL, gQ_sD, gL_sI, gL_sR, gL_sA, gL_sQ, gL_sD]; assumption) | simp [kd_sI, kd_sR, kd_sA, kd_sQ, kd_sL, kd_sD, ln_sI, ln_sR, ln_sA, ln_sQ, ln_sL, ln_sD, gI_sR, gI_sA, gI_sQ, gI_sL, gI_sD, gR_sI, gR_sA, gR_sQ, gR_sL, gR_sD, gA_sI, gA_sR, gA_sQ, gA_sL, gA_sD, gQ_sI, gQ_sR, gQ_sA, gQ_sL, gQ_sD, gL_sI, gL_sR, gL_sA, gL_sQ, gL_sD, kd_nO, kd_nA, *]) (T := TJ7) (N := 4) rfl (by first | assumption | omega) (by first | assumption | omega) (by first | assumption | omega) (Nat.le_of_ble_eq_true rfl) ?_
    refine s_newCap (c2 := c2) (by omega) a1 a2 a4 a5 hc hc2 ?_
    show AW mJ6_ensureCapacityInternal G d Qr Qx _ _ _ 27 _ _
    refine r_aload_n (i := 0) dJ6_ensureCapacityInternal_27 rfl rfl ?_
    refine r_getI dJ6_ensureCapacityInternal_28 fR_J6_22_J7 (by first | assumption | (simp only [kd_sI, kd_sR, kd_sA, kd_sQ, kd_sL, kd_sD, ln_sI, ln_sR, ln_sA, ln_sQ, ln_sL, ln_sD, gI_sR, gI_sA, gI_sQ, gI_sL, gI_sD, gR_sI, gR_sA, gR_sQ, gR_sL, gR_sD, gA_sI, gA_sR, gA_sQ, gA_sL, gA_sD, gQ_sI, gQ_sR, gQ_sA, gQ_sL, gQ_sD, gL_sI, gL_sR, gL_sA, gL_sQ, gL_sD]; assumption) | simp [kd_sI, kd_sR, kd_sA, kd_sQ, kd_sL, kd_sD, ln_sI, ln_sR, ln_sA, ln_sQ, ln_sL, ln_sD, gI_sR, gI_sA, gI_sQ, gI_sL, gI_sD, gR_sI, gR_sA, gR_sQ, gR_sL, gR_sD, gA_sI, gA_sR, gA_sQ, gA_sL, gA_sD, gQ_sI, gQ_sR, gQ_sA, gQ_sL, gQ_sD, gL_sI, gL_sR, gL_sA, gL_sQ, gL_sD, kd_nO, kd_nA, *]) (by first | assumption | exact gI_sIs | exact gR_sRs | with_reducible rfl | (simp only [kd_sI, kd_sR, kd_sA, kd_sQ, kd_sL, kd_sD, ln_sI, ln_sR, ln_sA, ln_sQ, ln_sL, ln_sD, gI_sR, gI_sA, gI_sQ, gI_sL, gI_sD, gR_sI, gR_sA, gR_sQ, gR_sL, gR_sD, gA_sI, gA_sR, gA_sQ, gA_sL, gA_sD, gQ_sI, gQ_sR, gQ_sA, gQ_sL, gQ_sD, gL_sI, gL_sR, gL_sA, gL_sQ, gL_sD]; first | done | assumption | with_reducible rfl) | rfl) ?_
    refine r_ishl dJ6_ensureCapacityInternal_31 ?_
    rw [shl0]
    refine r_callS (As := [_, _]) (mc' := 1) (ms' := c2) dJ6_ensureCapacityInternal_32 k_J6_108 rfl (by first | assumption | omega) (by first | assumption | omega) (by first | assumption | omega) (Nat.le_of_ble_eq_true rfl) ?_
    refine s_copyOfB (cs := cs) (by omega) a5 hc (by omega) (by omega) rfl ⟨a5, a6⟩ (fun q hq => ?_)
    have hqa : a ≠ q := fun h => by rw [h, hq] at a1; cases a1
    show AW mJ6_ensureCapacityInternal G d Qr Qx _ _ _ 35 _ _
    refine r_putR dJ6_ensureCapacityInternal_35 fG_J6_15_J7 (fun _ => by first | rfl | contradiction) (by first | assumption | (simp only [kd_sI, kd_sR, kd_sA, kd_sQ, kd_sL, kd_sD, ln_sI, ln_sR, ln_sA, ln_sQ, ln_sL, ln_sD, gI_sR, gI_sA, gI_sQ, gI_sL, gI_sD, gR_sI, gR_sA, gR_sQ, gR_sL, gR_sD, gA_sI, gA_sR, gA_sQ, gA_sL, gA_sD, gQ_sI, gQ_sR, gQ_sA, gQ_sL, gQ_sD, gL_sI, gL_sR, gL_sA, gL_sQ, gL_sD]; assumption) | simp [kd_sI, kd_sR, kd_sA, kd_sQ, kd_sL, kd_sD, ln_sI, ln_sR, ln_sA, ln_sQ, ln_sL, ln_sD, gI_sR, gI_sA, gI_sQ, gI_sL, gI_sD, gR_sI, gR_sA, gR_sQ, gR_sL, gR_sD, gA_sI, gA_sR, gA_sQ, gA_sL, gA_sD, gQ_sI, gQ_sR, gQ_sA, gQ_sL, gQ_sD, gL_sI, gL_sR, gL_sA, gL_sQ, gL_sD, kd_nO, kd_nA, *]) (by first | exact Or.inl ⟨_, rfl⟩ | exact Or.inr ⟨_, rfl⟩) ?_
    refine r_return dJ6_ensureCapacityInternal_38 rfl ?_
    have hK : Ks (SL a v) H (sR (sA (nA H q 2109 c2) 2109 q (va_cpy (gA H 2109 v) (fun _ => 0) 0 0 n)) 109 a (some q)) := ((Ks.rf.nA hq).sA (fun h => absurd hq h)).sR (fun _ => Or.inl rfl)
    have l2 : ln (sR (sA (nA H q 2109 c2) 2109 q (va_cpy (gA H 2109 v) (fun _ => 0) 0 0 n)) 109 a (some q)) q = c2 := by rw [ln_sR, ln_sA, ln_nA, if_pos rfl]
    refine hQ _ q hK (Or.inr hq) ⟨hK.kk a1 (by decide), a2, a3, gR_sRs, ⟨by rw [kd_sR, kd_sA, kd_nA, if_pos rfl], fun i hi => ?_⟩, by rw [l2]; omega, by rw [l2]; omega, a9⟩ (by rw [l2]; omega)
    rw [gA_sR, gA_sAs]
    have e8 := va_cpy_in (gA H 2109 v) (fun _ => 0) 0 0 n i hi
    rw [Nat.zero_add] at e8
    rw [e8]
    exact a6 i hi
/-- one more code behind the first n -/
def upN (cs : Nat → Nat) (n c : Nat) (i : Nat) : Nat := if i = n then c else cs i
theorem s_append6 {a n v c : Nat} {cs : Nat → Nat} (hd : 4 ≤ d) (h : SB H a n cs v) (hn : n < 60) (hc : c < 128) (hQ : ∀ H' v', Ks (SL a v) H H' → (v' = v ∨ kd H v' = 0) → SB H' a (n + 1) (upN cs n c) v' → Qr (some (vR (some a))) H') : AMet G d 1 70 yJ6_append_3 wJ6_append_3 H [vR (some a), vI (nI c)] Qr Qx := by
  have b1 := h.1
  have b3 := h.2.2.1
  refine AMet.of (M := mJ6_append_3) (maxL := 2) (by first | rfl | decide +kernel) rfl (Nat.le_of_ble_eq_true rfl) ?_
  show AW mJ6_append_3 _ _ _ _ _ _ _ 0 [some (vR (some a)), some (vI (nI c))] []
  refine r_aload_n (i := 0) dJ6_append_3_0 rfl rfl ?_
  refine r_aload_n (i := 0) dJ6_append_3_1 rfl rfl ?_
  refine r_getI dJ6_append_3_2 fR_J6_79_J7 (by first | assumption | (simp only [kd_sI, kd_sR, kd_sA, kd_sQ, kd_sL, kd_sD, ln_sI, ln_sR, ln_sA, ln_sQ, ln_sL, ln_sD, gI_sR, gI_sA, gI_sQ, gI_sL, gI_sD, gR_sI, gR_sA, gR_sQ, gR_sL, gR_sD, gA_sI, gA_sR, gA_sQ, gA_sL, gA_sD, gQ_sI, gQ_sR, gQ_sA, gQ_sL, gQ_sD, gL_sI, gL_sR, gL_sA, gL_sQ, gL_sD]; assumption) | simp [kd_sI, kd_sR, kd_sA, kd_sQ, kd_sL, kd_sD, ln_sI, ln_sR, ln_sA, ln_sQ, ln_sL, ln_sD, gI_sR, gI_sA, gI_sQ, gI_sL, gI_sD, gR_sI, gR_sA, gR_sQ, gR_sL, gR_sD, gA_sI, gA_sR, gA_sQ, gA_sL, gA_sD, gQ_sI, gQ_sR, gQ_sA, gQ_sL, gQ_sD, gL_sI, gL_sR, gL_sA, gL_sQ, gL_sD, kd_nO, kd_nA, *]) (by first | assumption | exact gI_sIs | exact gR_sRs | with_reducible rfl | (simp only [kd_sI, kd_sR, kd_sA, kd_sQ, kd_sL, kd_sD, ln_sI, ln_sR, ln_sA, ln_sQ, ln_sL, ln_sD, gI_sR, gI_sA, gI_sQ, gI_sL, gI_sD, gR_sI, gR_sA, gR_sQ, gR_sL, gR_sD, gA_sI, gA_sR, gA_sQ, gA_sL, gA_sD, gQ_sI, gQ_sR, gQ_sA, gQ_sL, gQ_sD, gL_sI, gL_sR, gL_sA, gL_sQ, gL_sD]; first | done | assumption | with_reducible rfl) | rfl) ?_
  refine r_iconst (v := nI 1) dJ6_append_3_5 (by decide) ?_
  refine r_iadd dJ6_append_3_6 ?_
  try simp only [nI_add]
  refine r_callUP (As := [_]) (mc' := 1) (ms' := 70) dJ6_append_3_7 k_J6_100_P rfl (by first | assumption | (simp only [kd_sI, kd_sR, kd_sA, kd_sQ, kd_sL, kd_sD, ln_sI, ln_sR, ln_sA, ln_sQ, ln_sL, ln_sD, gI_sR, gI_sA, gI_sQ, gI_sL, gI_sD, gR_sI, gR_sA, gR_sQ, gR_sL, gR_sD, gA_sI, gA_sR, gA_sQ, gA_sL, gA_sD, gQ_sI, gQ_sR, gQ_sA, gQ_sL, gQ_sD, gL_sI, gL_sR, gL_sA, gL_sQ, gL_sD]; assumption) | simp [kd_sI, kd_sR, kd_sA, kd_sQ, kd_sL, kd_sD, ln_sI, ln_sR, ln_sA, ln_sQ, ln_sL, ln_sD, gI_sR, gI_sA, gI_sQ, gI_sL, gI_sD, gR_sI, gR_sA, gR_sQ, gR_sL, gR_sD, gA_sI, gA_sR, gA_sQ, gA_sL, gA_sD, gQ_sI, gQ_sR, gQ_sA, gQ_sL, gQ_sD, gL_sI, gL_sR, gL_sA, gL_sQ, gL_sD, kd_nO, kd_nA, *]) (T := TJ7) (N := 4) rfl (by first | assumption | omega) (by first | assumption | omega) (by first | assumption | omega) (Nat.le_of_ble_eq_true rfl) ?_
  refine s_ensure (by omega) h hn (fun H1 v1 hK hv1 hs1 hl1 => ?_)
  obtain ⟨a1, a2, a3, a4, ⟨a5, a6⟩, a7, a8, a9⟩ := hs1
  obtain ⟨c1, hc1⟩ : ∃ c1, ln H1 v1 = c1 := ⟨_, rfl⟩
  rw [hc1] at a7 a8 hl1
  show AW mJ6_append_3 G d Qr Qx _ _ H1 10 _ _
  refine r_aload_n (i := 0) dJ6_append_3_10 rfl rfl ?_
  refine r_callU (As := []) (mc' := 0) (ms' := 0) dJ6_append_3_11 k_J6_83_J7 rfl (by first | assumption | (simp only [kd_sI, kd_sR, kd_sA, kd_sQ, kd_sL, kd_sD, ln_sI, ln_sR, ln_sA, ln_sQ, ln_sL, ln_sD, gI_sR, gI_sA, gI_sQ, gI_sL, gI_sD, gR_sI, gR_sA, gR_sQ, gR_sL, gR_sD, gA_sI, gA_sR, gA_sQ, gA_sL, gA_sD, gQ_sI, gQ_sR, gQ_sA, gQ_sL, gQ_sD, gL_sI, gL_sR, gL_sA, gL_sQ, gL_sD]; assumption) | simp [kd_sI, kd_sR, kd_sA, kd_sQ, kd_sL, kd_sD, ln_sI, ln_sR, ln_sA, ln_sQ, ln_sL, ln_sD, gI_sR, gI_sA, gI_sQ, gI_sL, gI_sD, gR_sI, gR_sA, gR_sQ, gR_sL, gR_sD, gA_sI, gA_sR, gA_sQ, gA_sL, gA_sD, gQ_sI, gQ_sR, gQ_sA, gQ_sL, gQ_sD, gL_sI, gL_sR, gL_sA, gL_sQ, gL_sD, kd_nO, kd_nA, *]) (T := TJ7) (N := 4) rfl (by first | assumption | omega) (by first | assumption | omega) (by first | assumption | omega) (Nat.le_of_ble_eq_true rfl) ?_
  refine s_sbLatin a1 a2 ?_
  show AW mJ6_append_3 G d Qr Qx _ _ H1 14 _ _
  refine r_if_eq (tgt := 45) dJ6_append_3_14 (by decide) (fun h14 => ?_) (fun h14 => ?_)
  · exact absurd h14 (by decide)
  · refine r_iload_n (i := 1) dJ6_append_3_17 rfl rfl ?_
    refine r_callS (As := [_]) (mc' := 0) (ms' := 0) dJ6_append_3_18 k_J6_191 rfl (by first | assumption | omega) (by first | assumption | omega) (by first | assumption | omega) (Nat.le_of_ble_eq_true rfl) ?_
    refine s_canEncode hc ?_
    show AW mJ6_append_3 G d Qr Qx _ _ H1 21 _ _
    refine r_if_eq (tgt := 45) dJ6_append_3_21 (by decide) (fun h21 => ?_) (fun h21 => ?_)
    · exact absurd h21 (by decide)
    · refine r_aload_n (i := 0) dJ6_append_3_24 rfl rfl ?_
      refine r_getR dJ6_append_3_25 fR_J6_15_J7 (by first | assumption | (simp only [kd_sI, kd_sR, kd_sA, kd_sQ, kd_sL, kd_sD, ln_sI, ln_sR, ln_sA, ln_sQ, ln_sL, ln_sD, gI_sR, gI_sA, gI_sQ, gI_sL, gI_sD, gR_sI, gR_sA, gR_sQ, gR_sL, gR_sD, gA_sI, gA_sR, gA_sQ, gA_sL, gA_sD, gQ_sI, gQ_sR, gQ_sA, gQ_sL, gQ_sD, gL_sI, gL_sR, gL_sA, gL_sQ, gL_sD]; assumption) | simp [kd_sI, kd_sR, kd_sA, kd_sQ, kd_sL, kd_sD, ln_sI, ln_sR, ln_sA, ln_sQ, ln_sL, ln_sD, gI_sR, gI_sA, gI_sQ, gI_sL, gI_sD, gR_sI, gR_sA, gR_sQ, gR_sL, gR_sD, gA_sI, gA_sR, gA_sQ, gA_sL, gA_sD, gQ_sI, gQ_sR, gQ_sA, gQ_sL, gQ_sD, gL_sI, gL_sR, gL_sA, gL_sQ, gL_sD, kd_nO, kd_nA, *]) (by first | assumption | exact gI_sIs | exact gR_sRs | with_reducible rfl | (simp only [kd_sI, kd_sR, kd_sA, kd_sQ, kd_sL, kd_sD, ln_sI, ln_sR, ln_sA, ln_sQ, ln_sL, ln_sD, gI_sR, gI_sA, gI_sQ, gI_sL, gI_sD, gR_sI, gR_sA, gR_sQ, gR_sL, gR_sD, gA_sI, gA_sR, gA_sQ, gA_sL, gA_sD, gQ_sI, gQ_sR, gQ_sA, gQ_sL, gQ_sD, gL_sI, gL_sR, gL_sA, gL_sQ, gL_sD]; first | done | assumption | with_reducible rfl) | rfl) ?_
      refine r_aload_n (i := 0) dJ6_append_3_28 rfl rfl ?_
      refine r_dup dJ6_append_3_29 rfl ?_
      refine r_getI dJ6_append_3_30 fR_J6_79_J7 (by first | assumption | (simp only [kd_sI, kd_sR, kd_sA, kd_sQ, kd_sL, kd_sD, ln_sI, ln_sR, ln_sA, ln_sQ, ln_sL, ln_sD, gI_sR, gI_sA, gI_sQ, gI_sL, gI_sD, gR_sI, gR_sA, gR_sQ, gR_sL, gR_sD, gA_sI, gA_sR, gA_sQ, gA_sL, gA_sD, gQ_sI, gQ_sR, gQ_sA, gQ_sL, gQ_sD, gL_sI, gL_sR, gL_sA, gL_sQ, gL_sD]; assumption) | simp [kd_sI, kd_sR, kd_sA, kd_sQ, kd_sL, kd_sD, ln_sI, ln_sR, ln_sA, ln_sQ, ln_sL, ln_sD, gI_sR, gI_sA, gI_sQ, gI_sL, gI_sD, gR_sI, gR_sA, gR_sQ, gR_sL, gR_sD, gA_sI, gA_sR, gA_sQ, gA_sL, gA_sD, gQ_sI, gQ_sR, gQ_sA, gQ_sL, gQ_sD, gL_sI, gL_sR, gL_sA, gL_sQ, gL_sD, kd_nO, kd_nA, *]) (by first | assumption | exact gI_sIs | exact gR_sRs | with_reducible rfl | (simp only [kd_sI, kd_sR, kd_sA, kd_sQ, kd_sL, kd_sD, ln_sI, ln_sR, ln_sA, ln_sQ, ln_sL, ln_sD, gI_sR, gI_sA, gI_sQ, gI_sL, gI_sD, gR_sI, gR_sA, gR_sQ, gR_sL, gR_sD, gA_sI, gA_sR, gA_sQ, gA_sL, gA_sD, gQ_sI, gQ_sR, gQ_sA, gQ_sL, gQ_sD, gL_sI, gL_sR, gL_sA, gL_sQ, gL_sD]; first | done | assumption | with_reducible rfl) | rfl) ?_
      refine r_dup_x1 dJ6_append_3_33 rfl rfl ?_
      refine r_iconst (v := nI 1) dJ6_append_3_34 (by decide) ?_
      refine r_iadd dJ6_append_3_35 ?_
      try simp only [nI_add]
      refine r_putI dJ6_append_3_36 fG_J6_79_J7 (fun _ => by first | rfl | contradiction) (by first | assumption | (simp only [kd_sI, kd_sR, kd_sA, kd_sQ, kd_sL, kd_sD, ln_sI, ln_sR, ln_sA, ln_sQ, ln_sL, ln_sD, gI_sR, gI_sA, gI_sQ, gI_sL, gI_sD, gR_sI, gR_sA, gR_sQ, gR_sL, gR_sD, gA_sI, gA_sR, gA_sQ, gA_sL, gA_sD, gQ_sI, gQ_sR, gQ_sA, gQ_sL, gQ_sD, gL_sI, gL_sR, gL_sA, gL_sQ, gL_sD]; assumption) | simp [kd_sI, kd_sR, kd_sA, kd_sQ, kd_sL, kd_sD, ln_sI, ln_sR, ln_sA, ln_sQ, ln_sL, ln_sD, gI_sR, gI_sA, gI_sQ, gI_sL, gI_sD, gR_sI, gR_sA, gR_sQ, gR_sL, gR_sD, gA_sI, gA_sR, gA_sQ, gA_sL, gA_sD, gQ_sI, gQ_sR, gQ_sA, gQ_sL, gQ_sD, gL_sI, gL_sR, gL_sA, gL_sQ, gL_sD, kd_nO, kd_nA, *]) (by first | rfl | assumption) (by first | rfl | assumption) ?_
      refine r_iload_n (i := 1) dJ6_append_3_39 rfl rfl ?_
      refine r_i2b dJ6_append_3_40 ?_
      rw [cd_i2b c hc]
      refine r_bast dJ6_append_3_41 (by first | assumption | (simp only [kd_sI, kd_sR, kd_sA, kd_sQ, kd_sL, kd_sD, ln_sI, ln_sR, ln_sA, ln_sQ, ln_sL, ln_sD, gI_sR, gI_sA, gI_sQ, gI_sL, gI_sD, gR_sI, gR_sA, gR_sQ, gR_sL, gR_sD, gA_sI, gA_sR, gA_sQ, gA_sL, gA_sD, gQ_sI, gQ_sR, gQ_sA, gQ_sL, gQ_sD, gL_sI, gL_sR, gL_sA, gL_sQ, gL_sD]; assumption) | simp [kd_sI, kd_sR, kd_sA, kd_sQ, kd_sL, kd_sD, ln_sI, ln_sR, ln_sA, ln_sQ, ln_sL, ln_sD, gI_sR, gI_sA, gI_sQ, gI_sL, gI_sD, gR_sI, gR_sA, gR_sQ, gR_sL, gR_sD, gA_sI, gA_sR, gA_sQ, gA_sL, gA_sD, gQ_sI, gQ_sR, gQ_sA, gQ_sL, gQ_sD, gL_sI, gL_sR, gL_sA, gL_sQ, gL_sD, kd_nO, kd_nA, *]) (by first | decide | assumption) (by first | assumption | exact gI_sIs | exact gR_sRs | with_reducible rfl | (simp only [kd_sI, kd_sR, kd_sA, kd_sQ, kd_sL, kd_sD, ln_sI, ln_sR, ln_sA, ln_sQ, ln_sL, ln_sD, gI_sR, gI_sA, gI_sQ, gI_sL, gI_sD, gR_sI, gR_sA, gR_sQ, gR_sL, gR_sD, gA_sI, gA_sR, gA_sQ, gA_sL, gA_sD, gQ_sI, gQ_sR, gQ_sA, gQ_sL, gQ_sD, gL_sI, gL_sR, gL_sA, gL_sQ, gL_sD]; first | done | assumption | with_reducible rfl) | rfl) (by first | with_reducible rfl | assumption | (simp only [nI_add, pk_mul, nI_1]; with_reducible rfl)) (by first | assumption | omega) (by first | assumption | omega) ?_
      refine r_goto (tgt := 75) dJ6_append_3_42 (by decide) ?_
      refine r_aload_n (i := 0) dJ6_append_3_75 rfl rfl ?_
      refine r_areturn dJ6_append_3_76 rfl (by first | exact Or.inl ⟨_, rfl⟩ | exact Or.inr ⟨_, rfl⟩) ?_
      rw [cd_nar c hc]
      have hS : kd H v1 ≠ 0 → SL a v v1 := fun q => by
        rcases hv1 with hv1 | hv1
        · exact Or.inr hv1
        · exact absurd hv1 q
      have hK2 : Ks (SL a v) H (sA (sI H1 112 a (nI (n + 1))) 2109 v1 (upd (gA (sI H1 112 a (nI (n + 1))) 2109 v1) n (nI c))) := (hK.sI (fun _ => Or.inl rfl)).sA hS
      refine hQ _ v1 hK2 hv1 ⟨a1, ?_, gI_sIs, a4, ⟨a5, fun i hi => ?_⟩, ?_, ?_, by omega⟩
      · rw [gI_sA, gI_sIn (by decide)]
        exact a2
      · rw [gA_sAs]
        unfold upN
        by_cases hin : i = n
        · subst hin
          rw [upd_s, if_pos rfl]
          exact ⟨rfl, hc⟩
        · unfold upd
          rw [if_neg hin, if_neg hin]
          exact a6 i (by omega)
      · show n + 1 ≤ ln H1 v1
        rw [hc1]
        exact hl1
      · show ln H1 v1 = 16 ∨ ln H1 v1 = 34 ∨ ln H1 v1 = 70
        rw [hc1]
        exact a8
theorem s_sbAppend {a n v c : Nat} {cs : Nat → Nat} (hd : 5 ≤ d) (h : SB H a n cs v) (hn : n < 60) (hc : c < 128) (hQ : ∀ H' v', Ks (SL a v) H H' → (v' = v ∨ kd H v' = 0) → SB H' a (n + 1) (upN cs n c) v' → Qr (some (vR (some a))) H') : AMet G d 1 70 yJ7_append_3 wJ7_append_3 H [vR (some a), vI (nI c)] Qr Qx := by
  have b1 := h.1
  refine AMet.of (M := mJ7_append_3) (maxL := 2) (by first | rfl | decide +kernel) rfl (Nat.le_of_ble_eq_true rfl) ?_
  show AW mJ7_append_3 _ _ _ _ _ _ _ 0 [some (vR (some a)), some (vI (nI c))] []
  refine r_aload_n (i := 0) dJ7_append_3_0 rfl rfl ?_
  refine r_iload_n (i := 1) dJ7_append_3_1 rfl rfl ?_
  refine r_callSU (As := [_]) (mc' := 1) (ms' := 70) dJ7_append_3_2 k_J7_50 rfl (by first | assumption | (simp only [kd_sI, kd_sR, kd_sA, kd_sQ, kd_sL, kd_sD, ln_sI, ln_sR, ln_sA, ln_sQ, ln_sL, ln_sD, gI_sR, gI_sA, gI_sQ, gI_sL, gI_sD, gR_sI, gR_sA, gR_sQ, gR_sL, gR_sD, gA_sI, gA_sR, gA_sQ, gA_sL, gA_sD, gQ_sI, gQ_sR, gQ_sA, gQ_sL, gQ_sD, gL_sI, gL_sR, gL_sA, gL_sQ, gL_sD]; assumption) | simp [kd_sI, kd_sR, kd_sA, kd_sQ, kd_sL, kd_sD, ln_sI, ln_sR, ln_sA, ln_sQ, ln_sL, ln_sD, gI_sR, gI_sA, gI_sQ, gI_sL, gI_sD, gR_sI, gR_sA, gR_sQ, gR_sL, gR_sD, gA_sI, gA_sR, gA_sQ, gA_sL, gA_sD, gQ_sI, gQ_sR, gQ_sA, gQ_sL, gQ_sD, gL_sI, gL_sR, gL_sA, gL_sQ, gL_sD, kd_nO, kd_nA, *]) (T := TJ7) (N := 4) rfl (by first | assumption | omega) (by first | assumption | omega) (by first | assumption | omega) (Nat.le_of_ble_eq_true rfl) ?_
  refine s_append6 (by omega) h hn hc (fun H1 v1 hK hv1 hs1 => ?_)
  show AW mJ7_append_3 G d Qr Qx _ _ H1 5 _ _
  refine r_pop dJ7_append_3_5 rfl ?_
  refine r_aload_n (i := 0) dJ7_append_3_6 rfl rfl ?_
  refine r_areturn dJ7_append_3_7 rfl (by first | exact Or.inl ⟨_, rfl⟩ | exact Or.inr ⟨_, rfl⟩) ?_
  exact hQ H1 v1 hK hv1 hs1
end Sb
