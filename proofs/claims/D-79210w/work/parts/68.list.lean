set_option maxRecDepth 100000
/-! ARRAY LISTS: their methods -/
theorem nI_shr1 : ∀ c, c < 64 → nI c >>> (nI 1 &&& 31) = nI (c / 2) := by decide
theorem nI_ne {a b : Nat} (h : a ≠ b) (ha : a < 2 ^ 31) (hb : b < 2 ^ 31) : ¬ nI a = nI b := by
  intro q
  have e := nI_clamp ha
  rw [q, nI_clamp hb] at e
  exact h e.symm
theorem nI_sub {a b : Nat} (h : b ≤ a) : nI a - nI b = nI (a - b) := by
  have e : nI a = nI (a - b) + nI b := by
    rw [nI_add]
    congr 1
    omega
  rw [e, Int32.add_sub_cancel]
section ArrL
variable {G : Gl} {d : Nat} {Qr : Option AV → AH → Prop} {Qx : String → Nat → AH → Prop} {H : AH} {L n e : Nat} {xs : Nat → Nat}
theorem s_newLength {a b c m : Nat} (hd : 1 ≤ d) (hm : m = a + (if b < c then c else b)) (h0 : 0 < m) (hb : b < 1000) (hc : c < 1000) (ha : a < 1000) (hQ : Qr (some (vI (nI m))) H) : AMet G d 0 0 yJ21_newLength wJ21_newLength H [vI (nI a), vI (nI b), vI (nI c)] Qr Qx := by
  refine AMet.of (M := mJ21_newLength) (maxL := 4) (by first | rfl | decide +kernel) rfl (Nat.le_of_ble_eq_true rfl) ?_
  show AW mJ21_newLength _ _ _ _ _ _ _ 0 [some (vI (nI a)), some (vI (nI b)), some (vI (nI c)), none] []
  refine r_iload_n (i := 0) dJ21_newLength_0 rfl rfl ?_
  refine r_iload_n (i := 1) dJ21_newLength_1 rfl rfl ?_
  refine r_iload_n (i := 2) dJ21_newLength_2 rfl rfl ?_
  refine r_mmax dJ21_newLength_3 q458 (by first | assumption | omega) (Nat.le_of_ble_eq_true rfl) ?_
  have em : (if nI b < nI c then nI c else nI b) = nI (if b < c then c else b) := by
    by_cases h : b < c
    · rw [if_pos h, if_pos (nI_lt h (by omega))]
    · rw [if_neg h, if_neg (nI_nlt (by omega) (by omega))]
  rw [em]
  have hm2 : m < 2000 := by
    rw [hm]
    split <;> omega
  have e2 : nI a + nI (if b < c then c else b) = nI m := by rw [nI_add, hm]
  refine r_iadd dJ21_newLength_6 ?_
  refine r_istore_n (i := 3) dJ21_newLength_7 rfl (Nat.le_of_ble_eq_true rfl) (by simp only [lset]; rfl) ?_
  refine r_iconst (v := nI 0) dJ21_newLength_8 (by decide) ?_
  refine r_iload_n (i := 3) dJ21_newLength_9 rfl rfl ?_
  refine r_icmp_ge (tgt := 21) dJ21_newLength_10 (by decide) (fun h10 => ?_) (fun h10 => ?_)
  · exact absurd h10 (by rw [e2]; exact nI_ge (a := 0) h0 (by omega))
  · refine r_iload_n (i := 3) dJ21_newLength_13 rfl rfl ?_
    refine r_ldc dJ21_newLength_14 q461 ?_
    refine r_icmp_gt (tgt := 21) dJ21_newLength_16 (by decide) (fun h16 => ?_) (fun h16 => ?_)
    · exact absurd h16 (by rw [e2]; exact nI_nlt (a := 2147483639) (by omega) (by decide))
    · refine r_iload_n (i := 3) dJ21_newLength_19 rfl rfl ?_
      refine r_ireturn dJ21_newLength_20 rfl (by first | rfl | assumption | exact vp_nar_int _ | exact pk_nc _) ?_
      rw [e2]
      exact hQ
/-- a copy of the first objects of an array -/
theorem s_copyOf3 {c m k : Nat} (hd : 2 ≤ d) (he : kd H e = 4096) (hl : ln H e = c) (hc : c < 1000) (hm : m < 1000) (hk : k = if m < c then m else c) (hel : ∀ i, i < k → ∀ y, gQ H 4096 e i = some y → isObj G H y) (hQ : ∀ q, kd H q = 0 → Qr (some (vR (some q))) (sQ (nA H q 4096 m) 4096 q (va_cpy (gQ H 4096 e) (fun _ => none) 0 0 k))) : AMet G d 1 m yJ23_copyOf_3 wJ23_copyOf_3 H [vR (some e), vI (nI m), vR (some (gSt G 3))] Qr Qx := by
  refine AMet.of (M := mJ23_copyOf_3) (maxL := 4) (by first | rfl | decide +kernel) rfl (Nat.le_of_ble_eq_true rfl) ?_
  show AW mJ23_copyOf_3 _ _ _ _ _ _ _ 0 [some (vR (some e)), some (vI (nI m)), some (vR (some (gSt G 3))), none] []
  refine r_aload_n (i := 2) dJ23_copyOf_3_0 rfl rfl ?_
  refine r_ldcM dJ23_copyOf_3_1 q1434 ?_
  refine r_acmp_ne (tgt := 13) dJ23_copyOf_3_3 (by decide) (fun h3 => ?_) (fun h3 => ?_)
  · exact absurd rfl h3
  · refine r_iload_n (i := 1) dJ23_copyOf_3_6 rfl rfl ?_
    refine r_new_obj 4096 dJ23_copyOf_3_7 q1435 (by decide) (by first | with_reducible rfl | assumption | (simp only [nI_add, pk_mul, nI_1]; with_reducible rfl)) (by first | assumption | omega) (by first | assumption | omega) (by first | assumption | omega) (fun q7 hq7 => ?_)
    have hqe : e ≠ q7 := fun h => by rw [h, hq7] at he; cases he
    refine AW.name (fun H1 hH1 => ?_)
    have k1 : kd H1 e = 4096 := by rw [hH1, kd_nA, if_neg hqe]; exact he
    have k2 : kd H1 q7 = 4096 := by rw [hH1, kd_nA, if_pos rfl]
    have l1 : ln H1 e = c := by rw [hH1, ln_nA, if_neg hqe]; exact hl
    have l2 : ln H1 q7 = m := by rw [hH1, ln_nA, if_pos rfl]
    have g1 : gQ H1 4096 e = gQ H 4096 e := by rw [hH1, gQ_nA, if_neg (fun h => hqe h.2)]
    have g2 : gQ H1 4096 q7 = fun _ => none := by rw [hH1, gQ_nA, if_pos ⟨rfl, rfl⟩]
    refine r_goto (tgt := 24) dJ23_copyOf_3_10 (by decide) ?_
    refine r_astore_n (i := 3) dJ23_copyOf_3_24 rfl (Nat.le_of_ble_eq_true rfl) (by simp only [lset]; rfl) ?_
    refine r_aload_n (i := 0) dJ23_copyOf_3_25 rfl rfl ?_
    refine r_iconst (v := nI 0) dJ23_copyOf_3_26 (by decide) ?_
    refine r_aload_n (i := 3) dJ23_copyOf_3_27 rfl rfl ?_
    refine r_iconst (v := nI 0) dJ23_copyOf_3_28 (by decide) ?_
    refine r_aload_n (i := 0) dJ23_copyOf_3_29 rfl rfl ?_
    refine r_alen dJ23_copyOf_3_30 (by first | (refine ⟨?_, ?_⟩ <;> simp [kd_sI, kd_sR, kd_sA, kd_sQ, kd_sL, kd_sD, ln_sI, ln_sR, ln_sA, ln_sQ, ln_sL, ln_sD, gI_sR, gI_sA, gI_sQ, gI_sL, gI_sD, gR_sI, gR_sA, gR_sQ, gR_sL, gR_sD, gA_sI, gA_sR, gA_sQ, gA_sL, gA_sD, gQ_sI, gQ_sR, gQ_sA, gQ_sL, gQ_sD, gL_sI, gL_sR, gL_sA, gL_sQ, gL_sD, *]; done) | omega) (by first | assumption | exact gI_sIs | exact gR_sRs | with_reducible rfl | (simp only [kd_sI, kd_sR, kd_sA, kd_sQ, kd_sL, kd_sD, ln_sI, ln_sR, ln_sA, ln_sQ, ln_sL, ln_sD, gI_sR, gI_sA, gI_sQ, gI_sL, gI_sD, gR_sI, gR_sA, gR_sQ, gR_sL, gR_sD, gA_sI, gA_sR, gA_sQ, gA_sL, gA_sD, gQ_sI, gQ_sR, gQ_sA, gQ_sL, gQ_sD, gL_sI, gL_sR, gL_sA, gL_sQ, gL_sD]; first | done | assumption | with_reducible rfl) | rfl) ?_
    refine r_iload_n (i := 1) dJ23_copyOf_3_31 rfl rfl ?_
    refine r_mmin dJ23_copyOf_3_32 q476 (by first | assumption | omega) (Nat.le_of_ble_eq_true rfl) ?_
    have em : (if nI m < nI c then nI m else nI c) = nI k := by
      by_cases h : m < c
      · rw [if_pos h] at hk
        rw [if_pos (nI_lt h (by omega)), hk]
      · rw [if_neg h] at hk
        rw [if_neg (nI_nlt (by omega) (by omega)), hk]
    rw [em]
    have hkc : k ≤ c := by rw [hk]; split <;> omega
    have hkm : k ≤ m := by rw [hk]; split <;> omega
    refine r_copy_obj dJ23_copyOf_3_35 q479 (by first | assumption | (simp only [kd_sI, kd_sR, kd_sA, kd_sQ, kd_sL, kd_sD, ln_sI, ln_sR, ln_sA, ln_sQ, ln_sL, ln_sD, gI_sR, gI_sA, gI_sQ, gI_sL, gI_sD, gR_sI, gR_sA, gR_sQ, gR_sL, gR_sD, gA_sI, gA_sR, gA_sQ, gA_sL, gA_sD, gQ_sI, gQ_sR, gQ_sA, gQ_sL, gQ_sD, gL_sI, gL_sR, gL_sA, gL_sQ, gL_sD]; assumption) | simp [kd_sI, kd_sR, kd_sA, kd_sQ, kd_sL, kd_sD, ln_sI, ln_sR, ln_sA, ln_sQ, ln_sL, ln_sD, gI_sR, gI_sA, gI_sQ, gI_sL, gI_sD, gR_sI, gR_sA, gR_sQ, gR_sL, gR_sD, gA_sI, gA_sR, gA_sQ, gA_sL, gA_sD, gQ_sI, gQ_sR, gQ_sA, gQ_sL, gQ_sD, gL_sI, gL_sR, gL_sA, gL_sQ, gL_sD, kd_nO, kd_nA, *]) (by first | decide | assumption) (by first | assumption | (simp only [kd_sI, kd_sR, kd_sA, kd_sQ, kd_sL, kd_sD, ln_sI, ln_sR, ln_sA, ln_sQ, ln_sL, ln_sD, gI_sR, gI_sA, gI_sQ, gI_sL, gI_sD, gR_sI, gR_sA, gR_sQ, gR_sL, gR_sD, gA_sI, gA_sR, gA_sQ, gA_sL, gA_sD, gQ_sI, gQ_sR, gQ_sA, gQ_sL, gQ_sD, gL_sI, gL_sR, gL_sA, gL_sQ, gL_sD]; assumption) | simp [kd_sI, kd_sR, kd_sA, kd_sQ, kd_sL, kd_sD, ln_sI, ln_sR, ln_sA, ln_sQ, ln_sL, ln_sD, gI_sR, gI_sA, gI_sQ, gI_sL, gI_sD, gR_sI, gR_sA, gR_sQ, gR_sL, gR_sD, gA_sI, gA_sR, gA_sQ, gA_sL, gA_sD, gQ_sI, gQ_sR, gQ_sA, gQ_sL, gQ_sD, gL_sI, gL_sR, gL_sA, gL_sQ, gL_sD, kd_nO, kd_nA, *]) (by first | decide | assumption) (by first | assumption | exact gI_sIs | exact gR_sRs | with_reducible rfl | (simp only [kd_sI, kd_sR, kd_sA, kd_sQ, kd_sL, kd_sD, ln_sI, ln_sR, ln_sA, ln_sQ, ln_sL, ln_sD, gI_sR, gI_sA, gI_sQ, gI_sL, gI_sD, gR_sI, gR_sA, gR_sQ, gR_sL, gR_sD, gA_sI, gA_sR, gA_sQ, gA_sL, gA_sD, gQ_sI, gQ_sR, gQ_sA, gQ_sL, gQ_sD, gL_sI, gL_sR, gL_sA, gL_sQ, gL_sD]; first | done | assumption | with_reducible rfl) | rfl) (by first | assumption | exact gI_sIs | exact gR_sRs | with_reducible rfl | (simp only [kd_sI, kd_sR, kd_sA, kd_sQ, kd_sL, kd_sD, ln_sI, ln_sR, ln_sA, ln_sQ, ln_sL, ln_sD, gI_sR, gI_sA, gI_sQ, gI_sL, gI_sD, gR_sI, gR_sA, gR_sQ, gR_sL, gR_sD, gA_sI, gA_sR, gA_sQ, gA_sL, gA_sD, gQ_sI, gQ_sR, gQ_sA, gQ_sL, gQ_sD, gL_sI, gL_sR, gL_sA, gL_sQ, gL_sD]; first | done | assumption | with_reducible rfl) | rfl) (by first | with_reducible rfl | assumption | (simp only [nI_add, pk_mul, nI_1]; with_reducible rfl)) (by first | with_reducible rfl | assumption | (simp only [nI_add, pk_mul, nI_1]; with_reducible rfl)) (by first | with_reducible rfl | assumption | (simp only [nI_add, pk_mul, nI_1]; with_reducible rfl)) (by first | assumption | omega) (by first | assumption | omega) (by first | assumption | omega) (by first | assumption | omega) ?_ (by first | assumption | omega) (Nat.le_of_ble_eq_true rfl) ?_
    · intro i hi y hy
      rw [g1, Nat.zero_add] at hy
      exact (hel i hi y hy).ks (S := fun _ => False) (by rw [hH1]; exact Ks.rf.nA hq7)
    · refine r_aload_n (i := 3) dJ23_copyOf_3_38 rfl rfl ?_
      refine r_areturn dJ23_copyOf_3_39 rfl (by first | exact Or.inl ⟨_, rfl⟩ | exact Or.inr ⟨_, rfl⟩) ?_
      rw [g1, g2, hH1]
      exact hQ q7 hq7
theorem s_copyOf3E {m : Nat} (hd : 2 ≤ d) (hm : m < 1000) (hm0 : m = 0) (hQ : ∀ q, kd H q = 0 → Qr (some (vR (some q))) (nA H q 4096 m)) : AMet G d 1 m yJ23_copyOf_3 wJ23_copyOf_3 H [vR (some (gSt G 1)), vI (nI m), vR (some (gSt G 3))] Qr Qx := by
  subst hm0
  refine AMet.of (M := mJ23_copyOf_3) (maxL := 4) (by first | rfl | decide +kernel) rfl (Nat.le_of_ble_eq_true rfl) ?_
  show AW mJ23_copyOf_3 _ _ _ _ _ _ _ 0 [some (vR (some (gSt G 1))), some (vI (nI 0)), some (vR (some (gSt G 3))), none] []
  refine r_aload_n (i := 2) dJ23_copyOf_3_0 rfl rfl ?_
  refine r_ldcM dJ23_copyOf_3_1 q1434 ?_
  refine r_acmp_ne (tgt := 13) dJ23_copyOf_3_3 (by decide) (fun h3 => ?_) (fun h3 => ?_)
  · exact absurd rfl h3
  · refine r_iload_n (i := 1) dJ23_copyOf_3_6 rfl rfl ?_
    refine r_new_obj 4096 dJ23_copyOf_3_7 q1435 (by decide) (by first | with_reducible rfl | assumption | (simp only [nI_add, pk_mul, nI_1]; with_reducible rfl)) (by first | assumption | omega) (by first | assumption | omega) (by first | assumption | omega) (fun q7 hq7 => ?_)
    refine AW.name (fun H1 hH1 => ?_)
    have k2 : kd H1 q7 = 4096 := by rw [hH1, kd_nA, if_pos rfl]
    have l2 : ln H1 q7 = 0 := by rw [hH1, ln_nA, if_pos rfl]
    refine r_goto (tgt := 24) dJ23_copyOf_3_10 (by decide) ?_
    refine r_astore_n (i := 3) dJ23_copyOf_3_24 rfl (Nat.le_of_ble_eq_true rfl) (by simp only [lset]; rfl) ?_
    refine r_aload_n (i := 0) dJ23_copyOf_3_25 rfl rfl ?_
    refine r_iconst (v := nI 0) dJ23_copyOf_3_26 (by decide) ?_
    refine r_aload_n (i := 3) dJ23_copyOf_3_27 rfl rfl ?_
    refine r_iconst (v := nI 0) dJ23_copyOf_3_28 (by decide) ?_
    refine r_aload_n (i := 0) dJ23_copyOf_3_29 rfl rfl ?_
    refine r_alenE dJ23_copyOf_3_30 ?_
    refine r_iload_n (i := 1) dJ23_copyOf_3_31 rfl rfl ?_
    refine r_mmin dJ23_copyOf_3_32 q476 (by first | assumption | omega) (Nat.le_of_ble_eq_true rfl) ?_
    rw [show (if nI 0 < 0 then nI 0 else 0 : Int32) = nI 0 by decide]
    refine r_copy_empty dJ23_copyOf_3_35 q479 (by first | assumption | (simp only [kd_sI, kd_sR, kd_sA, kd_sQ, kd_sL, kd_sD, ln_sI, ln_sR, ln_sA, ln_sQ, ln_sL, ln_sD, gI_sR, gI_sA, gI_sQ, gI_sL, gI_sD, gR_sI, gR_sA, gR_sQ, gR_sL, gR_sD, gA_sI, gA_sR, gA_sQ, gA_sL, gA_sD, gQ_sI, gQ_sR, gQ_sA, gQ_sL, gQ_sD, gL_sI, gL_sR, gL_sA, gL_sQ, gL_sD]; assumption) | simp [kd_sI, kd_sR, kd_sA, kd_sQ, kd_sL, kd_sD, ln_sI, ln_sR, ln_sA, ln_sQ, ln_sL, ln_sD, gI_sR, gI_sA, gI_sQ, gI_sL, gI_sD, gR_sI, gR_sA, gR_sQ, gR_sL, gR_sD, gA_sI, gA_sR, gA_sQ, gA_sL, gA_sD, gQ_sI, gQ_sR, gQ_sA, gQ_sL, gQ_sD, gL_sI, gL_sR, gL_sA, gL_sQ, gL_sD, kd_nO, kd_nA, *]) (by first | decide | assumption) (by first | assumption | exact gI_sIs | exact gR_sRs | with_reducible rfl | (simp only [kd_sI, kd_sR, kd_sA, kd_sQ, kd_sL, kd_sD, ln_sI, ln_sR, ln_sA, ln_sQ, ln_sL, ln_sD, gI_sR, gI_sA, gI_sQ, gI_sL, gI_sD, gR_sI, gR_sA, gR_sQ, gR_sL, gR_sD, gA_sI, gA_sR, gA_sQ, gA_sL, gA_sD, gQ_sI, gQ_sR, gQ_sA, gQ_sL, gQ_sD, gL_sI, gL_sR, gL_sA, gL_sQ, gL_sD]; first | done | assumption | with_reducible rfl) | rfl) (by first | rfl | assumption) (by first | with_reducible rfl | assumption | (simp only [nI_add, pk_mul, nI_1]; with_reducible rfl)) (by first | rfl | assumption) (by first | assumption | omega) (by first | assumption | omega) (by first | assumption | omega) (Nat.le_of_ble_eq_true rfl) ?_
    refine r_aload_n (i := 3) dJ23_copyOf_3_38 rfl rfl ?_
    refine r_areturn dJ23_copyOf_3_39 rfl (by first | exact Or.inl ⟨_, rfl⟩ | exact Or.inr ⟨_, rfl⟩) ?_
    rw [hH1]
    exact hQ q7 hq7
theorem s_copyOf2 {c m k : Nat} (hd : 3 ≤ d) (he : kd H e = 4096) (hl : ln H e = c) (hc : c < 1000) (hm : m < 1000) (hk : k = if m < c then m else c) (hel : ∀ i, i < k → ∀ y, gQ H 4096 e i = some y → isObj G H y) (hQ : ∀ q, kd H q = 0 → Qr (some (vR (some q))) (sQ (nA H q 4096 m) 4096 q (va_cpy (gQ H 4096 e) (fun _ => none) 0 0 k))) : AMet G d 1 m yJ23_copyOf_2 wJ23_copyOf_2 H [vR (some e), vI (nI m)] Qr Qx := by
  refine AMet.of (M := mJ23_copyOf_2) (maxL := 2) (by first | rfl | decide +kernel) rfl (Nat.le_of_ble_eq_true rfl) ?_
  show AW mJ23_copyOf_2 _ _ _ _ _ _ _ 0 [some (vR (some e)), some (vI (nI m))] []
  refine r_aload_n (i := 0) dJ23_copyOf_2_0 rfl rfl ?_
  refine r_iload_n (i := 1) dJ23_copyOf_2_1 rfl rfl ?_
  refine r_aload_n (i := 0) dJ23_copyOf_2_2 rfl rfl ?_
  refine r_getClass dJ23_copyOf_2_3 q1430 (by first | assumption | (simp only [kd_sI, kd_sR, kd_sA, kd_sQ, kd_sL, kd_sD, ln_sI, ln_sR, ln_sA, ln_sQ, ln_sL, ln_sD, gI_sR, gI_sA, gI_sQ, gI_sL, gI_sD, gR_sI, gR_sA, gR_sQ, gR_sL, gR_sD, gA_sI, gA_sR, gA_sQ, gA_sL, gA_sD, gQ_sI, gQ_sR, gQ_sA, gQ_sL, gQ_sD, gL_sI, gL_sR, gL_sA, gL_sQ, gL_sD]; assumption) | simp [kd_sI, kd_sR, kd_sA, kd_sQ, kd_sL, kd_sD, ln_sI, ln_sR, ln_sA, ln_sQ, ln_sL, ln_sD, gI_sR, gI_sA, gI_sQ, gI_sL, gI_sD, gR_sI, gR_sA, gR_sQ, gR_sL, gR_sD, gA_sI, gA_sR, gA_sQ, gA_sL, gA_sD, gQ_sI, gQ_sR, gQ_sA, gQ_sL, gQ_sD, gL_sI, gL_sR, gL_sA, gL_sQ, gL_sD, kd_nO, kd_nA, *]) (by first | decide | assumption) (by first | assumption | omega) (Nat.le_of_ble_eq_true rfl) ?_
  refine r_callS (As := [_, _, _]) (mc' := 1) (ms' := m) dJ23_copyOf_2_6 k_J23_300 rfl (by first | assumption | omega) (by first | assumption | omega) (by first | assumption | omega) (Nat.le_of_ble_eq_true rfl) ?_
  refine s_copyOf3 (by omega) he hl hc hm hk hel (fun q hq => ?_)
  show AW mJ23_copyOf_2 G d Qr Qx _ _ _ 9 _ _
  refine r_areturn dJ23_copyOf_2_9 rfl (by first | exact Or.inl ⟨_, rfl⟩ | exact Or.inr ⟨_, rfl⟩) ?_
  exact hQ q hq
theorem s_copyOf2E (hd : 3 ≤ d) (hQ : ∀ q, kd H q = 0 → Qr (some (vR (some q))) (nA H q 4096 0)) : AMet G d 1 0 yJ23_copyOf_2 wJ23_copyOf_2 H [vR (some (gSt G 1)), vI (nI 0)] Qr Qx := by
  refine AMet.of (M := mJ23_copyOf_2) (maxL := 2) (by first | rfl | decide +kernel) rfl (Nat.le_of_ble_eq_true rfl) ?_
  show AW mJ23_copyOf_2 _ _ _ _ _ _ _ 0 [some (vR (some (gSt G 1))), some (vI (nI 0))] []
  refine r_aload_n (i := 0) dJ23_copyOf_2_0 rfl rfl ?_
  refine r_iload_n (i := 1) dJ23_copyOf_2_1 rfl rfl ?_
  refine r_aload_n (i := 0) dJ23_copyOf_2_2 rfl rfl ?_
  refine r_getClassE dJ23_copyOf_2_3 q1430 (by first | assumption | omega) (Nat.le_of_ble_eq_true rfl) ?_
  refine r_callS (As := [_, _, _]) (mc' := 1) (ms' := 0) dJ23_copyOf_2_6 k_J23_300 rfl (by first | assumption | omega) (by first | assumption | omega) (by first | assumption | omega) (Nat.le_of_ble_eq_true rfl) ?_
  refine s_copyOf3E (by omega) (by decide) rfl (fun q hq => ?_)
  show AW mJ23_copyOf_2 G d Qr Qx _ _ _ 9 _ _
  refine r_areturn dJ23_copyOf_2_9 rfl (by first | exact Or.inl ⟨_, rfl⟩ | exact Or.inr ⟨_, rfl⟩) ?_
  exact hQ q hq
/-- the empty array grows to ten -/
theorem s_growE {m : Nat} (hd : 1 ≤ d) (hL : kd H L = 20) (he : gR H 96 L = some (gSt G 1)) (hm : m ≤ 10) (hQ : ∀ q, kd H q = 0 → Qr (some (vR (some q))) (sR (nA H q 4096 10) 96 L (some q))) : AMet G d 1 10 yJ2_grow_2 wJ2_grow_2 H [vR (some L), vI (nI m)] Qr Qx := by
  refine AMet.of (M := mJ2_grow_2) (maxL := 4) (by first | rfl | decide +kernel) rfl (Nat.le_of_ble_eq_true rfl) ?_
  show AW mJ2_grow_2 _ _ _ _ _ _ _ 0 [some (vR (some L)), some (vI (nI m)), none, none] []
  refine r_aload_n (i := 0) dJ2_grow_2_0 rfl rfl ?_
  refine r_getR dJ2_grow_2_1 fR_J2_9 (by first | assumption | (simp only [kd_sI, kd_sR, kd_sA, kd_sQ, kd_sL, kd_sD, ln_sI, ln_sR, ln_sA, ln_sQ, ln_sL, ln_sD, gI_sR, gI_sA, gI_sQ, gI_sL, gI_sD, gR_sI, gR_sA, gR_sQ, gR_sL, gR_sD, gA_sI, gA_sR, gA_sQ, gA_sL, gA_sD, gQ_sI, gQ_sR, gQ_sA, gQ_sL, gQ_sD, gL_sI, gL_sR, gL_sA, gL_sQ, gL_sD]; assumption) | simp [kd_sI, kd_sR, kd_sA, kd_sQ, kd_sL, kd_sD, ln_sI, ln_sR, ln_sA, ln_sQ, ln_sL, ln_sD, gI_sR, gI_sA, gI_sQ, gI_sL, gI_sD, gR_sI, gR_sA, gR_sQ, gR_sL, gR_sD, gA_sI, gA_sR, gA_sQ, gA_sL, gA_sD, gQ_sI, gQ_sR, gQ_sA, gQ_sL, gQ_sD, gL_sI, gL_sR, gL_sA, gL_sQ, gL_sD, kd_nO, kd_nA, *]) (by first | assumption | exact gI_sIs | exact gR_sRs | with_reducible rfl | (simp only [kd_sI, kd_sR, kd_sA, kd_sQ, kd_sL, kd_sD, ln_sI, ln_sR, ln_sA, ln_sQ, ln_sL, ln_sD, gI_sR, gI_sA, gI_sQ, gI_sL, gI_sD, gR_sI, gR_sA, gR_sQ, gR_sL, gR_sD, gA_sI, gA_sR, gA_sQ, gA_sL, gA_sD, gQ_sI, gQ_sR, gQ_sA, gQ_sL, gQ_sD, gL_sI, gL_sR, gL_sA, gL_sQ, gL_sD]; first | done | assumption | with_reducible rfl) | rfl) ?_
  refine r_alenE dJ2_grow_2_4 ?_
  refine r_istore_n (i := 2) dJ2_grow_2_5 rfl (Nat.le_of_ble_eq_true rfl) (by simp only [lset]; rfl) ?_
  refine r_iload_n (i := 2) dJ2_grow_2_6 rfl rfl ?_
  refine r_if_gt (tgt := 20) dJ2_grow_2_7 (by decide) (fun h7 => ?_) (fun h7 => ?_)
  · exact absurd h7 (by decide)
  · refine r_aload_n (i := 0) dJ2_grow_2_10 rfl rfl ?_
    refine r_getR dJ2_grow_2_11 fR_J2_9 (by first | assumption | (simp only [kd_sI, kd_sR, kd_sA, kd_sQ, kd_sL, kd_sD, ln_sI, ln_sR, ln_sA, ln_sQ, ln_sL, ln_sD, gI_sR, gI_sA, gI_sQ, gI_sL, gI_sD, gR_sI, gR_sA, gR_sQ, gR_sL, gR_sD, gA_sI, gA_sR, gA_sQ, gA_sL, gA_sD, gQ_sI, gQ_sR, gQ_sA, gQ_sL, gQ_sD, gL_sI, gL_sR, gL_sA, gL_sQ, gL_sD]; assumption) | simp [kd_sI, kd_sR, kd_sA, kd_sQ, kd_sL, kd_sD, ln_sI, ln_sR, ln_sA, ln_sQ, ln_sL, ln_sD, gI_sR, gI_sA, gI_sQ, gI_sL, gI_sD, gR_sI, gR_sA, gR_sQ, gR_sL, gR_sD, gA_sI, gA_sR, gA_sQ, gA_sL, gA_sD, gQ_sI, gQ_sR, gQ_sA, gQ_sL, gQ_sD, gL_sI, gL_sR, gL_sA, gL_sQ, gL_sD, kd_nO, kd_nA, *]) (by first | assumption | exact gI_sIs | exact gR_sRs | with_reducible rfl | (simp only [kd_sI, kd_sR, kd_sA, kd_sQ, kd_sL, kd_sD, ln_sI, ln_sR, ln_sA, ln_sQ, ln_sL, ln_sD, gI_sR, gI_sA, gI_sQ, gI_sL, gI_sD, gR_sI, gR_sA, gR_sQ, gR_sL, gR_sD, gA_sI, gA_sR, gA_sQ, gA_sL, gA_sD, gQ_sI, gQ_sR, gQ_sA, gQ_sL, gQ_sD, gL_sI, gL_sR, gL_sA, gL_sQ, gL_sD]; first | done | assumption | with_reducible rfl) | rfl) ?_
    refine r_gs_empty dJ2_grow_2_14 (Or.inl q167) ?_
    refine r_acmp_eq (tgt := 45) dJ2_grow_2_17 (by decide) (fun h17 => ?_) (fun h17 => ?_)
    · refine r_aload_n (i := 0) dJ2_grow_2_45 rfl rfl ?_
      refine r_bipush (v := nI 10) dJ2_grow_2_46 (by decide) ?_
      refine r_iload_n (i := 1) dJ2_grow_2_48 rfl rfl ?_
      refine r_mmax dJ2_grow_2_49 q1436 (by first | assumption | omega) (Nat.le_of_ble_eq_true rfl) ?_
      have em : (if nI 10 < nI m then nI m else nI 10) = nI 10 := if_neg (nI_nlt hm (by decide))
      rw [em]
      refine r_new_obj 4096 dJ2_grow_2_52 q1437 (by decide) (by first | with_reducible rfl | assumption | (simp only [nI_add, pk_mul, nI_1]; with_reducible rfl)) (by first | assumption | omega) (by first | assumption | omega) (by first | assumption | omega) (fun q52 hq52 => ?_)
      have hne : ¬ L = q52 := fun h => by rw [h, hq52] at hL; cases hL
      refine r_dup_x1 dJ2_grow_2_55 rfl rfl ?_
      refine r_putR dJ2_grow_2_56 fG_J2_9 (fun _ => by first | rfl | contradiction) (by first | assumption | (simp only [kd_sI, kd_sR, kd_sA, kd_sQ, kd_sL, kd_sD, ln_sI, ln_sR, ln_sA, ln_sQ, ln_sL, ln_sD, gI_sR, gI_sA, gI_sQ, gI_sL, gI_sD, gR_sI, gR_sA, gR_sQ, gR_sL, gR_sD, gA_sI, gA_sR, gA_sQ, gA_sL, gA_sD, gQ_sI, gQ_sR, gQ_sA, gQ_sL, gQ_sD, gL_sI, gL_sR, gL_sA, gL_sQ, gL_sD]; assumption) | simp [kd_sI, kd_sR, kd_sA, kd_sQ, kd_sL, kd_sD, ln_sI, ln_sR, ln_sA, ln_sQ, ln_sL, ln_sD, gI_sR, gI_sA, gI_sQ, gI_sL, gI_sD, gR_sI, gR_sA, gR_sQ, gR_sL, gR_sD, gA_sI, gA_sR, gA_sQ, gA_sL, gA_sD, gQ_sI, gQ_sR, gQ_sA, gQ_sL, gQ_sD, gL_sI, gL_sR, gL_sA, gL_sQ, gL_sD, kd_nO, kd_nA, *]) (by first | exact Or.inl ⟨_, rfl⟩ | exact Or.inr ⟨_, rfl⟩) ?_
      refine r_areturn dJ2_grow_2_59 rfl (by first | exact Or.inl ⟨_, rfl⟩ | exact Or.inr ⟨_, rfl⟩) ?_
      exact hQ q52 hq52
    · exact absurd rfl h17
/-- a full array grows by half -/
theorem s_grow2 {c : Nat} (hd : 4 ≤ d) (hL : kd H L = 20) (he : gR H 96 L = some e) (hk : kd H e = 4096) (hl : ln H e = c) (h10 : 10 ≤ c) (hc : c < 40) (hel : ∀ i, i < c → ∀ y, gQ H 4096 e i = some y → isObj G H y) (hQ : ∀ q, kd H q = 0 → Qr (some (vR (some q))) (sR (sQ (nA H q 4096 (c + c / 2)) 4096 q (va_cpy (gQ H 4096 e) (fun _ => none) 0 0 c)) 96 L (some q))) : AMet G d 1 (c + c / 2) yJ2_grow_2 wJ2_grow_2 H [vR (some L), vI (nI (c + 1))] Qr Qx := by
  refine AMet.of (M := mJ2_grow_2) (maxL := 4) (by first | rfl | decide +kernel) rfl (Nat.le_of_ble_eq_true rfl) ?_
  show AW mJ2_grow_2 _ _ _ _ _ _ _ 0 [some (vR (some L)), some (vI (nI (c + 1))), none, none] []
  refine r_aload_n (i := 0) dJ2_grow_2_0 rfl rfl ?_
  refine r_getR dJ2_grow_2_1 fR_J2_9 (by first | assumption | (simp only [kd_sI, kd_sR, kd_sA, kd_sQ, kd_sL, kd_sD, ln_sI, ln_sR, ln_sA, ln_sQ, ln_sL, ln_sD, gI_sR, gI_sA, gI_sQ, gI_sL, gI_sD, gR_sI, gR_sA, gR_sQ, gR_sL, gR_sD, gA_sI, gA_sR, gA_sQ, gA_sL, gA_sD, gQ_sI, gQ_sR, gQ_sA, gQ_sL, gQ_sD, gL_sI, gL_sR, gL_sA, gL_sQ, gL_sD]; assumption) | simp [kd_sI, kd_sR, kd_sA, kd_sQ, kd_sL, kd_sD, ln_sI, ln_sR, ln_sA, ln_sQ, ln_sL, ln_sD, gI_sR, gI_sA, gI_sQ, gI_sL, gI_sD, gR_sI, gR_sA, gR_sQ, gR_sL, gR_sD, gA_sI, gA_sR, gA_sQ, gA_sL, gA_sD, gQ_sI, gQ_sR, gQ_sA, gQ_sL, gQ_sD, gL_sI, gL_sR, gL_sA, gL_sQ, gL_sD, kd_nO, kd_nA, *]) (by first | assumption | exact gI_sIs | exact gR_sRs | with_reducible rfl | (simp only [kd_sI, kd_sR, kd_sA, kd_sQ, kd_sL, kd_sD, ln_sI, ln_sR, ln_sA, ln_sQ, ln_sL, ln_sD, gI_sR, gI_sA, gI_sQ, gI_sL, gI_sD, gR_sI, gR_sA, gR_sQ, gR_sL, gR_sD, gA_sI, gA_sR, gA_sQ, gA_sL, gA_sD, gQ_sI, gQ_sR, gQ_sA, gQ_sL, gQ_sD, gL_sI, gL_sR, gL_sA, gL_sQ, gL_sD]; first | done | assumption | with_reducible rfl) | rfl) ?_
  refine r_alen dJ2_grow_2_4 (by first | (refine ⟨?_, ?_⟩ <;> simp [kd_sI, kd_sR, kd_sA, kd_sQ, kd_sL, kd_sD, ln_sI, ln_sR, ln_sA, ln_sQ, ln_sL, ln_sD, gI_sR, gI_sA, gI_sQ, gI_sL, gI_sD, gR_sI, gR_sA, gR_sQ, gR_sL, gR_sD, gA_sI, gA_sR, gA_sQ, gA_sL, gA_sD, gQ_sI, gQ_sR, gQ_sA, gQ_sL, gQ_sD, gL_sI, gL_sR, gL_sA, gL_sQ, gL_sD, *]; done) | omega) (by first | assumption | exact gI_sIs | exact gR_sRs | with_reducible rfl | (simp only [kd_sI, kd_sR, kd_sA, kd_sQ, kd_sL, kd_sD, ln_sI, ln_sR, ln_sA, ln_sQ, ln_sL, ln_sD, gI_sR, gI_sA, gI_sQ, gI_sL, gI_sD, gR_sI, gR_sA, gR_sQ, gR_sL, gR_sD, gA_sI, gA_sR, gA_sQ, gA_sL, gA_sD, gQ_sI, gQ_sR, gQ_sA, gQ_sL, gQ_sD, gL_sI, gL_sR, gL_sA, gL_sQ, gL_sD]; first | done | assumption | with_reducible rfl) | rfl) ?_
  refine r_istore_n (i := 2) dJ2_grow_2_5 rfl (Nat.le_of_ble_eq_true rfl) (by simp only [lset]; rfl) ?_
  refine r_iload_n (i := 2) dJ2_grow_2_6 rfl rfl ?_
  refine r_if_gt (tgt := 20) dJ2_grow_2_7 (by decide) (fun h7 => ?_) (fun h7 => ?_)
  · have e1 : nI (c + 1) - nI c = nI 1 := by rw [nI_sub (by omega)]; congr 1; omega
    have e2 : nI c >>> (nI 1 &&& 31) = nI (c / 2) := nI_shr1 c (by omega)
    refine r_iload_n (i := 2) dJ2_grow_2_20 rfl rfl ?_
    refine r_iload_n (i := 1) dJ2_grow_2_21 rfl rfl ?_
    refine r_iload_n (i := 2) dJ2_grow_2_22 rfl rfl ?_
    refine r_isub dJ2_grow_2_23 ?_
    refine r_iload_n (i := 2) dJ2_grow_2_24 rfl rfl ?_
    refine r_iconst (v := nI 1) dJ2_grow_2_25 (by decide) ?_
    refine r_ishr dJ2_grow_2_26 ?_
    refine r_callS (As := [_, _, _]) (mc' := 0) (ms' := 0) dJ2_grow_2_27 k_J2_73 rfl (by first | assumption | omega) (by first | assumption | omega) (by first | assumption | omega) (Nat.le_of_ble_eq_true rfl) ?_
    try rw [e1, e2]
    refine s_newLength (m := c + c / 2) (by omega) ?_ (by omega) (by omega) (by omega) (by omega) ?_
    · rw [if_pos (by omega)]
    show AW mJ2_grow_2 G d Qr Qx _ _ _ 30 _ _
    refine r_istore_n (i := 3) dJ2_grow_2_30 rfl (Nat.le_of_ble_eq_true rfl) (by simp only [lset]; rfl) ?_
    refine r_aload_n (i := 0) dJ2_grow_2_31 rfl rfl ?_
    refine r_aload_n (i := 0) dJ2_grow_2_32 rfl rfl ?_
    refine r_getR dJ2_grow_2_33 fR_J2_9 (by first | assumption | (simp only [kd_sI, kd_sR, kd_sA, kd_sQ, kd_sL, kd_sD, ln_sI, ln_sR, ln_sA, ln_sQ, ln_sL, ln_sD, gI_sR, gI_sA, gI_sQ, gI_sL, gI_sD, gR_sI, gR_sA, gR_sQ, gR_sL, gR_sD, gA_sI, gA_sR, gA_sQ, gA_sL, gA_sD, gQ_sI, gQ_sR, gQ_sA, gQ_sL, gQ_sD, gL_sI, gL_sR, gL_sA, gL_sQ, gL_sD]; assumption) | simp [kd_sI, kd_sR, kd_sA, kd_sQ, kd_sL, kd_sD, ln_sI, ln_sR, ln_sA, ln_sQ, ln_sL, ln_sD, gI_sR, gI_sA, gI_sQ, gI_sL, gI_sD, gR_sI, gR_sA, gR_sQ, gR_sL, gR_sD, gA_sI, gA_sR, gA_sQ, gA_sL, gA_sD, gQ_sI, gQ_sR, gQ_sA, gQ_sL, gQ_sD, gL_sI, gL_sR, gL_sA, gL_sQ, gL_sD, kd_nO, kd_nA, *]) (by first | assumption | exact gI_sIs | exact gR_sRs | with_reducible rfl | (simp only [kd_sI, kd_sR, kd_sA, kd_sQ, kd_sL, kd_sD, ln_sI, ln_sR, ln_sA, ln_sQ, ln_sL, ln_sD, gI_sR, gI_sA, gI_sQ, gI_sL, gI_sD, gR_sI, gR_sA, gR_sQ, gR_sL, gR_sD, gA_sI, gA_sR, gA_sQ, gA_sL, gA_sD, gQ_sI, gQ_sR, gQ_sA, gQ_sL, gQ_sD, gL_sI, gL_sR, gL_sA, gL_sQ, gL_sD]; first | done | assumption | with_reducible rfl) | rfl) ?_
    refine r_iload_n (i := 3) dJ2_grow_2_36 rfl rfl ?_
    refine r_callS (As := [_, _]) (mc' := 1) (ms' := (c + c / 2)) dJ2_grow_2_37 k_J2_66 rfl (by first | assumption | omega) (by first | assumption | omega) (by first | assumption | omega) (Nat.le_of_ble_eq_true rfl) ?_
    refine s_copyOf2 (k := c) (by omega) hk hl (by omega) (by omega) (by rw [if_neg (by omega)]) hel (fun q hq => ?_)
    have hqL : L ≠ q := fun h => by rw [h, hq] at hL; cases hL
    show AW mJ2_grow_2 G d Qr Qx _ _ _ 40 _ _
    refine r_dup_x1 dJ2_grow_2_40 rfl rfl ?_
    refine r_putR dJ2_grow_2_41 fG_J2_9 (fun _ => by first | rfl | contradiction) (by first | assumption | (simp only [kd_sI, kd_sR, kd_sA, kd_sQ, kd_sL, kd_sD, ln_sI, ln_sR, ln_sA, ln_sQ, ln_sL, ln_sD, gI_sR, gI_sA, gI_sQ, gI_sL, gI_sD, gR_sI, gR_sA, gR_sQ, gR_sL, gR_sD, gA_sI, gA_sR, gA_sQ, gA_sL, gA_sD, gQ_sI, gQ_sR, gQ_sA, gQ_sL, gQ_sD, gL_sI, gL_sR, gL_sA, gL_sQ, gL_sD]; assumption) | simp [kd_sI, kd_sR, kd_sA, kd_sQ, kd_sL, kd_sD, ln_sI, ln_sR, ln_sA, ln_sQ, ln_sL, ln_sD, gI_sR, gI_sA, gI_sQ, gI_sL, gI_sD, gR_sI, gR_sA, gR_sQ, gR_sL, gR_sD, gA_sI, gA_sR, gA_sQ, gA_sL, gA_sD, gQ_sI, gQ_sR, gQ_sA, gQ_sL, gQ_sD, gL_sI, gL_sR, gL_sA, gL_sQ, gL_sD, kd_nO, kd_nA, *]) (by first | exact Or.inl ⟨_, rfl⟩ | exact Or.inr ⟨_, rfl⟩) ?_
    refine r_areturn dJ2_grow_2_44 rfl (by first | exact Or.inl ⟨_, rfl⟩ | exact Or.inr ⟨_, rfl⟩) ?_
    exact hQ q hq
  · exact absurd (nI_lt (a := 0) (b := c) (by omega) (by omega)) h7
theorem s_growE0 (hd : 2 ≤ d) (hL : kd H L = 20) (hn : gI H 97 L = nI 0) (he : gR H 96 L = some (gSt G 1)) (hQ : ∀ q, kd H q = 0 → Qr (some (vR (some q))) (sR (nA H q 4096 10) 96 L (some q))) : AMet G d 1 10 yJ2_grow wJ2_grow H [vR (some L)] Qr Qx := by
  refine AMet.of (M := mJ2_grow) (maxL := 1) (by first | rfl | decide +kernel) rfl (Nat.le_of_ble_eq_true rfl) ?_
  show AW mJ2_grow _ _ _ _ _ _ _ 0 [some (vR (some L))] []
  refine r_aload_n (i := 0) dJ2_grow_0 rfl rfl ?_
  refine r_aload_n (i := 0) dJ2_grow_1 rfl rfl ?_
  refine r_getI dJ2_grow_2 fR_J2_48 (by first | assumption | (simp only [kd_sI, kd_sR, kd_sA, kd_sQ, kd_sL, kd_sD, ln_sI, ln_sR, ln_sA, ln_sQ, ln_sL, ln_sD, gI_sR, gI_sA, gI_sQ, gI_sL, gI_sD, gR_sI, gR_sA, gR_sQ, gR_sL, gR_sD, gA_sI, gA_sR, gA_sQ, gA_sL, gA_sD, gQ_sI, gQ_sR, gQ_sA, gQ_sL, gQ_sD, gL_sI, gL_sR, gL_sA, gL_sQ, gL_sD]; assumption) | simp [kd_sI, kd_sR, kd_sA, kd_sQ, kd_sL, kd_sD, ln_sI, ln_sR, ln_sA, ln_sQ, ln_sL, ln_sD, gI_sR, gI_sA, gI_sQ, gI_sL, gI_sD, gR_sI, gR_sA, gR_sQ, gR_sL, gR_sD, gA_sI, gA_sR, gA_sQ, gA_sL, gA_sD, gQ_sI, gQ_sR, gQ_sA, gQ_sL, gQ_sD, gL_sI, gL_sR, gL_sA, gL_sQ, gL_sD, kd_nO, kd_nA, *]) (by first | assumption | exact gI_sIs | exact gR_sRs | with_reducible rfl | (simp only [kd_sI, kd_sR, kd_sA, kd_sQ, kd_sL, kd_sD, ln_sI, ln_sR, ln_sA, ln_sQ, ln_sL, ln_sD, gI_sR, gI_sA, gI_sQ, gI_sL, gI_sD, gR_sI, gR_sA, gR_sQ, gR_sL, gR_sD, gA_sI, gA_sR, gA_sQ, gA_sL, gA_sD, gQ_sI, gQ_sR, gQ_sA, gQ_sL, gQ_sD, gL_sI, gL_sR, gL_sA, gL_sQ, gL_sD]; first | done | assumption | with_reducible rfl) | rfl) ?_
  refine r_iconst (v := nI 1) dJ2_grow_5 (by decide) ?_
  refine r_iadd dJ2_grow_6 ?_
  try simp only [nI_add, pk_mul, nI_1]
  refine r_callV (As := [_]) (mc' := 1) (ms' := 10) dJ2_grow_7 k_J2_69 rfl (by first | assumption | (simp only [kd_sI, kd_sR, kd_sA, kd_sQ, kd_sL, kd_sD, ln_sI, ln_sR, ln_sA, ln_sQ, ln_sL, ln_sD, gI_sR, gI_sA, gI_sQ, gI_sL, gI_sD, gR_sI, gR_sA, gR_sQ, gR_sL, gR_sD, gA_sI, gA_sR, gA_sQ, gA_sL, gA_sD, gQ_sI, gQ_sR, gQ_sA, gQ_sL, gQ_sD, gL_sI, gL_sR, gL_sA, gL_sQ, gL_sD]; assumption) | simp [kd_sI, kd_sR, kd_sA, kd_sQ, kd_sL, kd_sD, ln_sI, ln_sR, ln_sA, ln_sQ, ln_sL, ln_sD, gI_sR, gI_sA, gI_sQ, gI_sL, gI_sD, gR_sI, gR_sA, gR_sQ, gR_sL, gR_sD, gA_sI, gA_sR, gA_sQ, gA_sL, gA_sD, gQ_sI, gQ_sR, gQ_sA, gQ_sL, gQ_sD, gL_sI, gL_sR, gL_sA, gL_sQ, gL_sD, kd_nO, kd_nA, *]) (T := TJ2) (N := 3) rfl (by first | assumption | omega) (by first | assumption | omega) (by first | assumption | omega) (Nat.le_of_ble_eq_true rfl) ?_
  refine s_growE (m := 1) (by omega) hL he (by decide) (fun q hq => ?_)
  show AW mJ2_grow G d Qr Qx _ _ _ 10 _ _
  refine r_areturn dJ2_grow_10 rfl (by first | exact Or.inl ⟨_, rfl⟩ | exact Or.inr ⟨_, rfl⟩) ?_
  exact hQ q hq
theorem s_grow {c : Nat} (hd : 5 ≤ d) (hL : kd H L = 20) (hn : gI H 97 L = nI c) (he : gR H 96 L = some e) (hk : kd H e = 4096) (hl : ln H e = c) (h10 : 10 ≤ c) (hc : c < 40) (hel : ∀ i, i < c → ∀ y, gQ H 4096 e i = some y → isObj G H y) (hQ : ∀ q, kd H q = 0 → Qr (some (vR (some q))) (sR (sQ (nA H q 4096 (c + c / 2)) 4096 q (va_cpy (gQ H 4096 e) (fun _ => none) 0 0 c)) 96 L (some q))) : AMet G d 1 (c + c / 2) yJ2_grow wJ2_grow H [vR (some L)] Qr Qx := by
  refine AMet.of (M := mJ2_grow) (maxL := 1) (by first | rfl | decide +kernel) rfl (Nat.le_of_ble_eq_true rfl) ?_
  show AW mJ2_grow _ _ _ _ _ _ _ 0 [some (vR (some L))] []
  refine r_aload_n (i := 0) dJ2_grow_0 rfl rfl ?_
  refine r_aload_n (i := 0) dJ2_grow_1 rfl rfl ?_
  refine r_getI dJ2_grow_2 fR_J2_48 (by first | assumption | (simp only [kd_sI, kd_sR, kd_sA, kd_sQ, kd_sL, kd_sD, ln_sI, ln_sR, ln_sA, ln_sQ, ln_sL, ln_sD, gI_sR, gI_sA, gI_sQ, gI_sL, gI_sD, gR_sI, gR_sA, gR_sQ, gR_sL, gR_sD, gA_sI, gA_sR, gA_sQ, gA_sL, gA_sD, gQ_sI, gQ_sR, gQ_sA, gQ_sL, gQ_sD, gL_sI, gL_sR, gL_sA, gL_sQ, gL_sD]; assumption) | simp [kd_sI, kd_sR, kd_sA, kd_sQ, kd_sL, kd_sD, ln_sI, ln_sR, ln_sA, ln_sQ, ln_sL, ln_sD, gI_sR, gI_sA, gI_sQ, gI_sL, gI_sD, gR_sI, gR_sA, gR_sQ, gR_sL, gR_sD, gA_sI, gA_sR, gA_sQ, gA_sL, gA_sD, gQ_sI, gQ_sR, gQ_sA, gQ_sL, gQ_sD, gL_sI, gL_sR, gL_sA, gL_sQ, gL_sD, kd_nO, kd_nA, *]) (by first | assumption | exact gI_sIs | exact gR_sRs | with_reducible rfl | (simp only [kd_sI, kd_sR, kd_sA, kd_sQ, kd_sL, kd_sD, ln_sI, ln_sR, ln_sA, ln_sQ, ln_sL, ln_sD, gI_sR, gI_sA, gI_sQ, gI_sL, gI_sD, gR_sI, gR_sA, gR_sQ, gR_sL, gR_sD, gA_sI, gA_sR, gA_sQ, gA_sL, gA_sD, gQ_sI, gQ_sR, gQ_sA, gQ_sL, gQ_sD, gL_sI, gL_sR, gL_sA, gL_sQ, gL_sD]; first | done | assumption | with_reducible rfl) | rfl) ?_
  refine r_iconst (v := nI 1) dJ2_grow_5 (by decide) ?_
  refine r_iadd dJ2_grow_6 ?_
  try simp only [nI_add, pk_mul, nI_1]
  refine r_callV (As := [_]) (mc' := 1) (ms' := (c + c / 2)) dJ2_grow_7 k_J2_69 rfl (by first | assumption | (simp only [kd_sI, kd_sR, kd_sA, kd_sQ, kd_sL, kd_sD, ln_sI, ln_sR, ln_sA, ln_sQ, ln_sL, ln_sD, gI_sR, gI_sA, gI_sQ, gI_sL, gI_sD, gR_sI, gR_sA, gR_sQ, gR_sL, gR_sD, gA_sI, gA_sR, gA_sQ, gA_sL, gA_sD, gQ_sI, gQ_sR, gQ_sA, gQ_sL, gQ_sD, gL_sI, gL_sR, gL_sA, gL_sQ, gL_sD]; assumption) | simp [kd_sI, kd_sR, kd_sA, kd_sQ, kd_sL, kd_sD, ln_sI, ln_sR, ln_sA, ln_sQ, ln_sL, ln_sD, gI_sR, gI_sA, gI_sQ, gI_sL, gI_sD, gR_sI, gR_sA, gR_sQ, gR_sL, gR_sD, gA_sI, gA_sR, gA_sQ, gA_sL, gA_sD, gQ_sI, gQ_sR, gQ_sA, gQ_sL, gQ_sD, gL_sI, gL_sR, gL_sA, gL_sQ, gL_sD, kd_nO, kd_nA, *]) (T := TJ2) (N := 3) rfl (by first | assumption | omega) (by first | assumption | omega) (by first | assumption | omega) (Nat.le_of_ble_eq_true rfl) ?_
  refine s_grow2 (by omega) hL he hk hl h10 hc hel (fun q hq => ?_)
  show AW mJ2_grow G d Qr Qx _ _ _ 10 _ _
  refine r_areturn dJ2_grow_10 rfl (by first | exact Or.inl ⟨_, rfl⟩ | exact Or.inr ⟨_, rfl⟩) ?_
  exact hQ q hq
/-- the set that a list's method may change -/
def SL (L e : Nat) (a : Nat) : Prop := a = L ∨ a = e
theorem s_add2 {x : Nat} (hd : 6 ≤ d) (h : LsO G H L n xs e) (hn : n ≤ 15) (hx : isObj G H x) (hQ : ∀ H' e', Ks (SL L e) H H' → (e' = e ∨ kd H e' = 0) → LsO G H' L (n + 1) (va_up xs n x) e' → Qr none H') : AMet G d 1 22 yJ2_add_2 wJ2_add_2 H [vR (some L), vR (some x), vR (some e), vI (nI n)] Qr Qx := by
  obtain ⟨a1, a2, a3, a4, a5⟩ := h
  have hup : ∀ i, i < n → va_up xs n x i = xs i := fun i hi => by unfold va_up; rw [if_neg (by omega)]
  refine AMet.of (M := mJ2_add_2) (maxL := 4) (by first | rfl | decide +kernel) rfl (Nat.le_of_ble_eq_true rfl) ?_
  show AW mJ2_add_2 _ _ _ _ _ _ _ 0 [some (vR (some L)), some (vR (some x)), some (vR (some e)), some (vI (nI n))] []
  -- the end, from 11 on with the array e2
  have fin : ∀ (H1 : AH) (e2 rc rs : Nat), Ks (SL L e) H H1 → (e2 = e ∨ kd H e2 = 0) → gR H1 96 L = some e2 → gI H1 97 L = nI n → kd H1 e2 = 4096 → n < ln H1 e2 → 10 ≤ ln H1 e2 → ln H1 e2 ≤ 22 → (∀ i, i < n → gQ H1 4096 e2 i = some (xs i)) → AW mJ2_add_2 G d Qr Qx rc rs H1 11 [some (vR (some L)), some (vR (some x)), some (vR (some e2)), some (vI (nI n))] [] := by
    intro H1 e2 rc rs hK he2 b1 b2 b3 b4 b5 b6 b7
    have k1 : kd H1 L = 20 := hK.kk a1 (by decide)
    have hx1 : isObj G H1 x := hx.ks hK
    obtain ⟨l1, hl1⟩ : ∃ l1, ln H1 e2 = l1 := ⟨_, rfl⟩
    rw [hl1] at b4 b5 b6
    have hLe : L ≠ e2 := ne_of_kd k1 b3 (by decide)
    refine r_aload_n (i := 2) dJ2_add_2_11 rfl rfl ?_
    refine r_iload_n (i := 3) dJ2_add_2_12 rfl rfl ?_
    refine r_aload_n (i := 1) dJ2_add_2_13 rfl rfl ?_
    refine r_qast dJ2_add_2_14 (by first | assumption | (simp only [kd_sI, kd_sR, kd_sA, kd_sQ, kd_sL, kd_sD, ln_sI, ln_sR, ln_sA, ln_sQ, ln_sL, ln_sD, gI_sR, gI_sA, gI_sQ, gI_sL, gI_sD, gR_sI, gR_sA, gR_sQ, gR_sL, gR_sD, gA_sI, gA_sR, gA_sQ, gA_sL, gA_sD, gQ_sI, gQ_sR, gQ_sA, gQ_sL, gQ_sD, gL_sI, gL_sR, gL_sA, gL_sQ, gL_sD]; assumption) | simp [kd_sI, kd_sR, kd_sA, kd_sQ, kd_sL, kd_sD, ln_sI, ln_sR, ln_sA, ln_sQ, ln_sL, ln_sD, gI_sR, gI_sA, gI_sQ, gI_sL, gI_sD, gR_sI, gR_sA, gR_sQ, gR_sL, gR_sD, gA_sI, gA_sR, gA_sQ, gA_sL, gA_sD, gQ_sI, gQ_sR, gQ_sA, gQ_sL, gQ_sD, gL_sI, gL_sR, gL_sA, gL_sQ, gL_sD, kd_nO, kd_nA, *]) (by decide) (by first | assumption | exact gI_sIs | exact gR_sRs | with_reducible rfl | (simp only [kd_sI, kd_sR, kd_sA, kd_sQ, kd_sL, kd_sD, ln_sI, ln_sR, ln_sA, ln_sQ, ln_sL, ln_sD, gI_sR, gI_sA, gI_sQ, gI_sL, gI_sD, gR_sI, gR_sA, gR_sQ, gR_sL, gR_sD, gA_sI, gA_sR, gA_sQ, gA_sL, gA_sD, gQ_sI, gQ_sR, gQ_sA, gQ_sL, gQ_sD, gL_sI, gL_sR, gL_sA, gL_sQ, gL_sD]; first | done | assumption | with_reducible rfl) | rfl) (by first | with_reducible rfl | assumption | (simp only [nI_add, pk_mul, nI_1]; with_reducible rfl)) (by first | assumption | omega) (by first | assumption | omega) ?_ ?_
    · intro b hb
      cases hb
      exact hx1
    · refine r_aload_n (i := 0) dJ2_add_2_15 rfl rfl ?_
      refine r_iload_n (i := 3) dJ2_add_2_16 rfl rfl ?_
      refine r_iconst (v := nI 1) dJ2_add_2_17 (by decide) ?_
      refine r_iadd dJ2_add_2_18 ?_
      rw [nI_add]
      refine r_putI dJ2_add_2_19 fG_J2_48 (fun _ => by first | rfl | contradiction) (by first | assumption | (simp only [kd_sI, kd_sR, kd_sA, kd_sQ, kd_sL, kd_sD, ln_sI, ln_sR, ln_sA, ln_sQ, ln_sL, ln_sD, gI_sR, gI_sA, gI_sQ, gI_sL, gI_sD, gR_sI, gR_sA, gR_sQ, gR_sL, gR_sD, gA_sI, gA_sR, gA_sQ, gA_sL, gA_sD, gQ_sI, gQ_sR, gQ_sA, gQ_sL, gQ_sD, gL_sI, gL_sR, gL_sA, gL_sQ, gL_sD]; assumption) | simp [kd_sI, kd_sR, kd_sA, kd_sQ, kd_sL, kd_sD, ln_sI, ln_sR, ln_sA, ln_sQ, ln_sL, ln_sD, gI_sR, gI_sA, gI_sQ, gI_sL, gI_sD, gR_sI, gR_sA, gR_sQ, gR_sL, gR_sD, gA_sI, gA_sR, gA_sQ, gA_sL, gA_sD, gQ_sI, gQ_sR, gQ_sA, gQ_sL, gQ_sD, gL_sI, gL_sR, gL_sA, gL_sQ, gL_sD, kd_nO, kd_nA, *]) (by first | rfl | assumption) (by first | rfl | assumption) ?_
      refine r_return dJ2_add_2_22 rfl ?_
      have hK2 : Ks (SL L e) H (sI (sQ H1 4096 e2 (va_up (gQ H1 4096 e2) n (some x))) 97 L (nI (n + 1))) := by
        refine (hK.sQ (fun q => ?_)).sI (fun _ => Or.inl rfl)
        rcases he2 with he2 | he2
        · exact Or.inr he2
        · exact absurd he2 q
      refine hQ _ e2 hK2 he2 ⟨hK2.kk a1 (by decide), gI_sIs, b1, fun i hi => ?_, Or.inr ⟨b3, ?_, ?_, ?_, fun i hi => ?_⟩⟩
      · by_cases hin : i = n
        · subst hin
          unfold va_up
          rw [if_pos rfl]
          exact hx.ks hK2
        · rw [hup i (by omega)]
          exact (a4 i (by omega)).ks hK2
      · show n + 1 ≤ ln H1 e2
        rw [hl1]
        omega
      · show 10 ≤ ln H1 e2
        rw [hl1]
        exact b5
      · show ln H1 e2 ≤ 22
        rw [hl1]
        exact b6
      · show gQ (sQ H1 4096 e2 _) 4096 e2 i = _
        rw [gQ_sQs]
        unfold va_up
        by_cases hin : i = n
        · rw [if_pos hin, if_pos hin]
        · rw [if_neg hin, if_neg hin]
          exact b7 i (by omega)
  rcases a5 with ⟨rfl, rfl⟩ | ⟨b1, b2, b3, b4, b5⟩
  · refine r_iload_n (i := 3) dJ2_add_2_0 rfl rfl ?_
    refine r_aload_n (i := 2) dJ2_add_2_1 rfl rfl ?_
    refine r_alenE dJ2_add_2_2 ?_
    refine r_icmp_ne (tgt := 11) dJ2_add_2_3 (by decide) (fun h3 => ?_) (fun h3 => ?_)
    · exact absurd h3 (by decide)
    · refine r_aload_n (i := 0) dJ2_add_2_6 rfl rfl ?_
      refine r_callV (As := []) (mc' := 1) (ms' := 10) dJ2_add_2_7 k_J2_129 rfl (by first | assumption | (simp only [kd_sI, kd_sR, kd_sA, kd_sQ, kd_sL, kd_sD, ln_sI, ln_sR, ln_sA, ln_sQ, ln_sL, ln_sD, gI_sR, gI_sA, gI_sQ, gI_sL, gI_sD, gR_sI, gR_sA, gR_sQ, gR_sL, gR_sD, gA_sI, gA_sR, gA_sQ, gA_sL, gA_sD, gQ_sI, gQ_sR, gQ_sA, gQ_sL, gQ_sD, gL_sI, gL_sR, gL_sA, gL_sQ, gL_sD]; assumption) | simp [kd_sI, kd_sR, kd_sA, kd_sQ, kd_sL, kd_sD, ln_sI, ln_sR, ln_sA, ln_sQ, ln_sL, ln_sD, gI_sR, gI_sA, gI_sQ, gI_sL, gI_sD, gR_sI, gR_sA, gR_sQ, gR_sL, gR_sD, gA_sI, gA_sR, gA_sQ, gA_sL, gA_sD, gQ_sI, gQ_sR, gQ_sA, gQ_sL, gQ_sD, gL_sI, gL_sR, gL_sA, gL_sQ, gL_sD, kd_nO, kd_nA, *]) (T := TJ2) (N := 3) rfl (by first | assumption | omega) (by first | assumption | omega) (by first | assumption | omega) (Nat.le_of_ble_eq_true rfl) ?_
      refine s_growE0 (by omega) a1 a2 a3 (fun q hq => ?_)
      have hqL : L ≠ q := fun h => by rw [h, hq] at a1; cases a1
      show AW mJ2_add_2 G d Qr Qx _ _ _ 10 _ _
      refine r_astore_n (i := 2) dJ2_add_2_10 rfl (Nat.le_of_ble_eq_true rfl) (by simp only [lset]; rfl) ?_
      refine fin _ q _ _ ((Ks.rf.nA hq).sR (fun _ => Or.inl rfl)) (Or.inr hq) gR_sRs (by show gI H 97 L = _; exact a2) (by rw [kd_sR, kd_nA, if_pos rfl]) (by rw [ln_sR, ln_nA, if_pos rfl]; decide) (by rw [ln_sR, ln_nA, if_pos rfl]; decide) (by rw [ln_sR, ln_nA, if_pos rfl]; decide) (fun i hi => absurd hi (by omega))
  · obtain ⟨c, hc⟩ : ∃ c, ln H e = c := ⟨_, rfl⟩
    rw [hc] at b2 b3 b4
    refine r_iload_n (i := 3) dJ2_add_2_0 rfl rfl ?_
    refine r_aload_n (i := 2) dJ2_add_2_1 rfl rfl ?_
    refine r_alen dJ2_add_2_2 (by first | (refine ⟨?_, ?_⟩ <;> simp [kd_sI, kd_sR, kd_sA, kd_sQ, kd_sL, kd_sD, ln_sI, ln_sR, ln_sA, ln_sQ, ln_sL, ln_sD, gI_sR, gI_sA, gI_sQ, gI_sL, gI_sD, gR_sI, gR_sA, gR_sQ, gR_sL, gR_sD, gA_sI, gA_sR, gA_sQ, gA_sL, gA_sD, gQ_sI, gQ_sR, gQ_sA, gQ_sL, gQ_sD, gL_sI, gL_sR, gL_sA, gL_sQ, gL_sD, *]; done) | omega) (by first | assumption | exact gI_sIs | exact gR_sRs | with_reducible rfl | (simp only [kd_sI, kd_sR, kd_sA, kd_sQ, kd_sL, kd_sD, ln_sI, ln_sR, ln_sA, ln_sQ, ln_sL, ln_sD, gI_sR, gI_sA, gI_sQ, gI_sL, gI_sD, gR_sI, gR_sA, gR_sQ, gR_sL, gR_sD, gA_sI, gA_sR, gA_sQ, gA_sL, gA_sD, gQ_sI, gQ_sR, gQ_sA, gQ_sL, gQ_sD, gL_sI, gL_sR, gL_sA, gL_sQ, gL_sD]; first | done | assumption | with_reducible rfl) | rfl) ?_
    refine r_icmp_ne (tgt := 11) dJ2_add_2_3 (by decide) (fun h3 => ?_) (fun h3 => ?_)
    · have hnc : n ≠ c := fun h => h3 (by rw [h])
      exact fin H e _ _ Ks.rf (Or.inl rfl) a3 a2 b1 (by rw [hc]; omega) (by rw [hc]; omega) (by rw [hc]; omega) b5
    · have hnc : n = c := by
        rcases Nat.lt_or_ge n c with q | q
        · exact absurd h3 (nI_ne (by omega) (by omega) (by omega))
        · omega
      subst hnc
      refine r_aload_n (i := 0) dJ2_add_2_6 rfl rfl ?_
      refine r_callV (As := []) (mc' := 1) (ms' := (n + n / 2)) dJ2_add_2_7 k_J2_129 rfl (by first | assumption | (simp only [kd_sI, kd_sR, kd_sA, kd_sQ, kd_sL, kd_sD, ln_sI, ln_sR, ln_sA, ln_sQ, ln_sL, ln_sD, gI_sR, gI_sA, gI_sQ, gI_sL, gI_sD, gR_sI, gR_sA, gR_sQ, gR_sL, gR_sD, gA_sI, gA_sR, gA_sQ, gA_sL, gA_sD, gQ_sI, gQ_sR, gQ_sA, gQ_sL, gQ_sD, gL_sI, gL_sR, gL_sA, gL_sQ, gL_sD]; assumption) | simp [kd_sI, kd_sR, kd_sA, kd_sQ, kd_sL, kd_sD, ln_sI, ln_sR, ln_sA, ln_sQ, ln_sL, ln_sD, gI_sR, gI_sA, gI_sQ, gI_sL, gI_sD, gR_sI, gR_sA, gR_sQ, gR_sL, gR_sD, gA_sI, gA_sR, gA_sQ, gA_sL, gA_sD, gQ_sI, gQ_sR, gQ_sA, gQ_sL, gQ_sD, gL_sI, gL_sR, gL_sA, gL_sQ, gL_sD, kd_nO, kd_nA, *]) (T := TJ2) (N := 3) rfl (by first | assumption | omega) (by first | assumption | omega) (by first | assumption | omega) (Nat.le_of_ble_eq_true rfl) ?_
      refine s_grow (c := n) (by omega) a1 a2 a3 b1 hc b3 (by omega) (fun i hi y hy => ?_) (fun q hq => ?_)
      · rw [b5 i hi] at hy
        cases hy
        exact a4 i hi
      have hqL : L ≠ q := fun h => by rw [h, hq] at a1; cases a1
      show AW mJ2_add_2 G d Qr Qx _ _ _ 10 _ _
      refine r_astore_n (i := 2) dJ2_add_2_10 rfl (Nat.le_of_ble_eq_true rfl) (by simp only [lset]; rfl) ?_
      refine fin _ q _ _ (((Ks.rf.nA hq).sQ (fun h => absurd hq h)).sR (fun _ => Or.inl rfl)) (Or.inr hq) gR_sRs (by show gI H 97 L = _; exact a2) (by rw [kd_sR, kd_sQ, kd_nA, if_pos rfl]) (by rw [ln_sR, ln_sQ, ln_nA, if_pos rfl]; omega) (by rw [ln_sR, ln_sQ, ln_nA, if_pos rfl]; omega) (by rw [ln_sR, ln_sQ, ln_nA, if_pos rfl]; omega) (fun i hi => ?_)
      rw [gQ_sR, gQ_sQs]
      have e8 := va_cpy_in (gQ H 4096 e) (fun _ => none) 0 0 n i hi
      rw [Nat.zero_add] at e8
      rw [e8]
      exact b5 i hi
theorem s_add {x : Nat} (hd : 7 ≤ d) (h : LsO G H L n xs e) (hn : n ≤ 15) (hx : isObj G H x) (hQ : ∀ H' e', Ks (SL L e) H H' → (e' = e ∨ kd H e' = 0) → LsO G H' L (n + 1) (va_up xs n x) e' → Qr (some (vI (nI 1))) H') : AMet G d 1 22 yJ2_add wJ2_add H [vR (some L), vR (some x)] Qr Qx := by
  obtain ⟨a1, a2, a3, a4, a5⟩ := h
  obtain ⟨mc, hmc⟩ : ∃ mc, gI H 95 L = mc := ⟨_, rfl⟩
  refine AMet.of (M := mJ2_add) (maxL := 2) (by first | rfl | decide +kernel) rfl (Nat.le_of_ble_eq_true rfl) ?_
  show AW mJ2_add _ _ _ _ _ _ _ 0 [some (vR (some L)), some (vR (some x))] []
  refine r_aload_n (i := 0) dJ2_add_0 rfl rfl ?_
  refine r_dup dJ2_add_1 rfl ?_
  refine r_getI dJ2_add_2 fR_J2_63 (by first | assumption | (simp only [kd_sI, kd_sR, kd_sA, kd_sQ, kd_sL, kd_sD, ln_sI, ln_sR, ln_sA, ln_sQ, ln_sL, ln_sD, gI_sR, gI_sA, gI_sQ, gI_sL, gI_sD, gR_sI, gR_sA, gR_sQ, gR_sL, gR_sD, gA_sI, gA_sR, gA_sQ, gA_sL, gA_sD, gQ_sI, gQ_sR, gQ_sA, gQ_sL, gQ_sD, gL_sI, gL_sR, gL_sA, gL_sQ, gL_sD]; assumption) | simp [kd_sI, kd_sR, kd_sA, kd_sQ, kd_sL, kd_sD, ln_sI, ln_sR, ln_sA, ln_sQ, ln_sL, ln_sD, gI_sR, gI_sA, gI_sQ, gI_sL, gI_sD, gR_sI, gR_sA, gR_sQ, gR_sL, gR_sD, gA_sI, gA_sR, gA_sQ, gA_sL, gA_sD, gQ_sI, gQ_sR, gQ_sA, gQ_sL, gQ_sD, gL_sI, gL_sR, gL_sA, gL_sQ, gL_sD, kd_nO, kd_nA, *]) (by first | assumption | exact gI_sIs | exact gR_sRs | with_reducible rfl | (simp only [kd_sI, kd_sR, kd_sA, kd_sQ, kd_sL, kd_sD, ln_sI, ln_sR, ln_sA, ln_sQ, ln_sL, ln_sD, gI_sR, gI_sA, gI_sQ, gI_sL, gI_sD, gR_sI, gR_sA, gR_sQ, gR_sL, gR_sD, gA_sI, gA_sR, gA_sQ, gA_sL, gA_sD, gQ_sI, gQ_sR, gQ_sA, gQ_sL, gQ_sD, gL_sI, gL_sR, gL_sA, gL_sQ, gL_sD]; first | done | assumption | with_reducible rfl) | rfl) ?_
  refine r_iconst (v := nI 1) dJ2_add_5 (by decide) ?_
  refine r_iadd dJ2_add_6 ?_
  refine r_putI dJ2_add_7 fG_J2_63 (fun _ => by first | rfl | contradiction) (by first | assumption | (simp only [kd_sI, kd_sR, kd_sA, kd_sQ, kd_sL, kd_sD, ln_sI, ln_sR, ln_sA, ln_sQ, ln_sL, ln_sD, gI_sR, gI_sA, gI_sQ, gI_sL, gI_sD, gR_sI, gR_sA, gR_sQ, gR_sL, gR_sD, gA_sI, gA_sR, gA_sQ, gA_sL, gA_sD, gQ_sI, gQ_sR, gQ_sA, gQ_sL, gQ_sD, gL_sI, gL_sR, gL_sA, gL_sQ, gL_sD]; assumption) | simp [kd_sI, kd_sR, kd_sA, kd_sQ, kd_sL, kd_sD, ln_sI, ln_sR, ln_sA, ln_sQ, ln_sL, ln_sD, gI_sR, gI_sA, gI_sQ, gI_sL, gI_sD, gR_sI, gR_sA, gR_sQ, gR_sL, gR_sD, gA_sI, gA_sR, gA_sQ, gA_sL, gA_sD, gQ_sI, gQ_sR, gQ_sA, gQ_sL, gQ_sD, gL_sI, gL_sR, gL_sA, gL_sQ, gL_sD, kd_nO, kd_nA, *]) (by first | rfl | assumption) (by first | rfl | assumption) ?_
  refine r_aload_n (i := 0) dJ2_add_10 rfl rfl ?_
  refine r_aload_n (i := 1) dJ2_add_11 rfl rfl ?_
  refine r_aload_n (i := 0) dJ2_add_12 rfl rfl ?_
  refine r_getR dJ2_add_13 fR_J2_9 (by first | assumption | (simp only [kd_sI, kd_sR, kd_sA, kd_sQ, kd_sL, kd_sD, ln_sI, ln_sR, ln_sA, ln_sQ, ln_sL, ln_sD, gI_sR, gI_sA, gI_sQ, gI_sL, gI_sD, gR_sI, gR_sA, gR_sQ, gR_sL, gR_sD, gA_sI, gA_sR, gA_sQ, gA_sL, gA_sD, gQ_sI, gQ_sR, gQ_sA, gQ_sL, gQ_sD, gL_sI, gL_sR, gL_sA, gL_sQ, gL_sD]; assumption) | simp [kd_sI, kd_sR, kd_sA, kd_sQ, kd_sL, kd_sD, ln_sI, ln_sR, ln_sA, ln_sQ, ln_sL, ln_sD, gI_sR, gI_sA, gI_sQ, gI_sL, gI_sD, gR_sI, gR_sA, gR_sQ, gR_sL, gR_sD, gA_sI, gA_sR, gA_sQ, gA_sL, gA_sD, gQ_sI, gQ_sR, gQ_sA, gQ_sL, gQ_sD, gL_sI, gL_sR, gL_sA, gL_sQ, gL_sD, kd_nO, kd_nA, *]) (by first | assumption | exact gI_sIs | exact gR_sRs | with_reducible rfl | (simp only [kd_sI, kd_sR, kd_sA, kd_sQ, kd_sL, kd_sD, ln_sI, ln_sR, ln_sA, ln_sQ, ln_sL, ln_sD, gI_sR, gI_sA, gI_sQ, gI_sL, gI_sD, gR_sI, gR_sA, gR_sQ, gR_sL, gR_sD, gA_sI, gA_sR, gA_sQ, gA_sL, gA_sD, gQ_sI, gQ_sR, gQ_sA, gQ_sL, gQ_sD, gL_sI, gL_sR, gL_sA, gL_sQ, gL_sD]; first | done | assumption | with_reducible rfl) | rfl) ?_
  refine r_aload_n (i := 0) dJ2_add_16 rfl rfl ?_
  refine r_getI dJ2_add_17 fR_J2_48 (by first | assumption | (simp only [kd_sI, kd_sR, kd_sA, kd_sQ, kd_sL, kd_sD, ln_sI, ln_sR, ln_sA, ln_sQ, ln_sL, ln_sD, gI_sR, gI_sA, gI_sQ, gI_sL, gI_sD, gR_sI, gR_sA, gR_sQ, gR_sL, gR_sD, gA_sI, gA_sR, gA_sQ, gA_sL, gA_sD, gQ_sI, gQ_sR, gQ_sA, gQ_sL, gQ_sD, gL_sI, gL_sR, gL_sA, gL_sQ, gL_sD]; assumption) | simp [kd_sI, kd_sR, kd_sA, kd_sQ, kd_sL, kd_sD, ln_sI, ln_sR, ln_sA, ln_sQ, ln_sL, ln_sD, gI_sR, gI_sA, gI_sQ, gI_sL, gI_sD, gR_sI, gR_sA, gR_sQ, gR_sL, gR_sD, gA_sI, gA_sR, gA_sQ, gA_sL, gA_sD, gQ_sI, gQ_sR, gQ_sA, gQ_sL, gQ_sD, gL_sI, gL_sR, gL_sA, gL_sQ, gL_sD, kd_nO, kd_nA, *]) (by first | assumption | exact gI_sIs | exact gR_sRs | with_reducible rfl | (simp only [kd_sI, kd_sR, kd_sA, kd_sQ, kd_sL, kd_sD, ln_sI, ln_sR, ln_sA, ln_sQ, ln_sL, ln_sD, gI_sR, gI_sA, gI_sQ, gI_sL, gI_sD, gR_sI, gR_sA, gR_sQ, gR_sL, gR_sD, gA_sI, gA_sR, gA_sQ, gA_sL, gA_sD, gQ_sI, gQ_sR, gQ_sA, gQ_sL, gQ_sD, gL_sI, gL_sR, gL_sA, gL_sQ, gL_sD]; first | done | assumption | with_reducible rfl) | rfl) ?_
  try simp only [nI_add, pk_mul, nI_1]
  refine r_callV (As := [_, _, _]) (mc' := 1) (ms' := 22) dJ2_add_20 k_J2_131 rfl (by first | assumption | (simp only [kd_sI, kd_sR, kd_sA, kd_sQ, kd_sL, kd_sD, ln_sI, ln_sR, ln_sA, ln_sQ, ln_sL, ln_sD, gI_sR, gI_sA, gI_sQ, gI_sL, gI_sD, gR_sI, gR_sA, gR_sQ, gR_sL, gR_sD, gA_sI, gA_sR, gA_sQ, gA_sL, gA_sD, gQ_sI, gQ_sR, gQ_sA, gQ_sL, gQ_sD, gL_sI, gL_sR, gL_sA, gL_sQ, gL_sD]; assumption) | simp [kd_sI, kd_sR, kd_sA, kd_sQ, kd_sL, kd_sD, ln_sI, ln_sR, ln_sA, ln_sQ, ln_sL, ln_sD, gI_sR, gI_sA, gI_sQ, gI_sL, gI_sD, gR_sI, gR_sA, gR_sQ, gR_sL, gR_sD, gA_sI, gA_sR, gA_sQ, gA_sL, gA_sD, gQ_sI, gQ_sR, gQ_sA, gQ_sL, gQ_sD, gL_sI, gL_sR, gL_sA, gL_sQ, gL_sD, kd_nO, kd_nA, *]) (T := TJ2) (N := 3) rfl (by first | assumption | omega) (by first | assumption | omega) (by first | assumption | omega) (Nat.le_of_ble_eq_true rfl) ?_
  have hK1 : Ks (SL L e) H (sI H 95 L (mc + nI 1)) := Ks.rf.sI (fun _ => Or.inl rfl)
  have hL1 : LsO G (sI H 95 L (mc + nI 1)) L n xs e := ⟨a1, by rw [gI_sIn (by decide)]; exact a2, a3, fun i hi => (a4 i hi).ks hK1, a5⟩
  refine s_add2 (by omega) hL1 hn (hx.ks hK1) (fun H2 e2 hK he hl => ?_)
  show AW mJ2_add G d Qr Qx _ _ _ 23 _ _
  refine r_iconst (v := nI 1) dJ2_add_23 (by decide) ?_
  refine r_ireturn dJ2_add_24 rfl (by first | rfl | assumption | exact vp_nar_int _ | exact pk_nc _) ?_
  exact hQ H2 e2 (hK1.tr hK) he hl
theorem s_size (h1 : kd H L = 20) (h2 : gI H 97 L = nI n) (hQ : Qr (some (vI (nI n))) H) : AMet G d 0 0 yJ2_size wJ2_size H [vR (some L)] Qr Qx := by
  refine AMet.of (M := mJ2_size) (maxL := 1) (by first | rfl | decide +kernel) rfl (Nat.le_of_ble_eq_true rfl) ?_
  show AW mJ2_size _ _ _ _ _ _ _ 0 [some (vR (some L))] []
  refine r_aload_n (i := 0) dJ2_size_0 rfl rfl ?_
  refine r_getI dJ2_size_1 fR_J2_48 (by first | assumption | (simp only [kd_sI, kd_sR, kd_sA, kd_sQ, kd_sL, kd_sD, ln_sI, ln_sR, ln_sA, ln_sQ, ln_sL, ln_sD, gI_sR, gI_sA, gI_sQ, gI_sL, gI_sD, gR_sI, gR_sA, gR_sQ, gR_sL, gR_sD, gA_sI, gA_sR, gA_sQ, gA_sL, gA_sD, gQ_sI, gQ_sR, gQ_sA, gQ_sL, gQ_sD, gL_sI, gL_sR, gL_sA, gL_sQ, gL_sD]; assumption) | simp [kd_sI, kd_sR, kd_sA, kd_sQ, kd_sL, kd_sD, ln_sI, ln_sR, ln_sA, ln_sQ, ln_sL, ln_sD, gI_sR, gI_sA, gI_sQ, gI_sL, gI_sD, gR_sI, gR_sA, gR_sQ, gR_sL, gR_sD, gA_sI, gA_sR, gA_sQ, gA_sL, gA_sD, gQ_sI, gQ_sR, gQ_sA, gQ_sL, gQ_sD, gL_sI, gL_sR, gL_sA, gL_sQ, gL_sD, kd_nO, kd_nA, *]) (by first | assumption | exact gI_sIs | exact gR_sRs | with_reducible rfl | (simp only [kd_sI, kd_sR, kd_sA, kd_sQ, kd_sL, kd_sD, ln_sI, ln_sR, ln_sA, ln_sQ, ln_sL, ln_sD, gI_sR, gI_sA, gI_sQ, gI_sL, gI_sD, gR_sI, gR_sA, gR_sQ, gR_sL, gR_sD, gA_sI, gA_sR, gA_sQ, gA_sL, gA_sD, gQ_sI, gQ_sR, gQ_sA, gQ_sL, gQ_sD, gL_sI, gL_sR, gL_sA, gL_sQ, gL_sD]; first | done | assumption | with_reducible rfl) | rfl) ?_
  refine r_ireturn dJ2_size_4 rfl (by first | rfl | assumption | exact vp_nar_int _ | exact pk_nc _) ?_
  exact hQ
theorem s_isEmpty (h1 : kd H L = 20) (h2 : gI H 97 L = nI n) (hn : n < 1000) (hQ : Qr (some (vI (if n = 0 then nI 1 else nI 0))) H) : AMet G d 0 0 yJ2_isEmpty wJ2_isEmpty H [vR (some L)] Qr Qx := by
  refine AMet.of (M := mJ2_isEmpty) (maxL := 1) (by first | rfl | decide +kernel) rfl (Nat.le_of_ble_eq_true rfl) ?_
  show AW mJ2_isEmpty _ _ _ _ _ _ _ 0 [some (vR (some L))] []
  refine r_aload_n (i := 0) dJ2_isEmpty_0 rfl rfl ?_
  refine r_getI dJ2_isEmpty_1 fR_J2_48 (by first | assumption | (simp only [kd_sI, kd_sR, kd_sA, kd_sQ, kd_sL, kd_sD, ln_sI, ln_sR, ln_sA, ln_sQ, ln_sL, ln_sD, gI_sR, gI_sA, gI_sQ, gI_sL, gI_sD, gR_sI, gR_sA, gR_sQ, gR_sL, gR_sD, gA_sI, gA_sR, gA_sQ, gA_sL, gA_sD, gQ_sI, gQ_sR, gQ_sA, gQ_sL, gQ_sD, gL_sI, gL_sR, gL_sA, gL_sQ, gL_sD]; assumption) | simp [kd_sI, kd_sR, kd_sA, kd_sQ, kd_sL, kd_sD, ln_sI, ln_sR, ln_sA, ln_sQ, ln_sL, ln_sD, gI_sR, gI_sA, gI_sQ, gI_sL, gI_sD, gR_sI, gR_sA, gR_sQ, gR_sL, gR_sD, gA_sI, gA_sR, gA_sQ, gA_sL, gA_sD, gQ_sI, gQ_sR, gQ_sA, gQ_sL, gQ_sD, gL_sI, gL_sR, gL_sA, gL_sQ, gL_sD, kd_nO, kd_nA, *]) (by first | assumption | exact gI_sIs | exact gR_sRs | with_reducible rfl | (simp only [kd_sI, kd_sR, kd_sA, kd_sQ, kd_sL, kd_sD, ln_sI, ln_sR, ln_sA, ln_sQ, ln_sL, ln_sD, gI_sR, gI_sA, gI_sQ, gI_sL, gI_sD, gR_sI, gR_sA, gR_sQ, gR_sL, gR_sD, gA_sI, gA_sR, gA_sQ, gA_sL, gA_sD, gQ_sI, gQ_sR, gQ_sA, gQ_sL, gQ_sD, gL_sI, gL_sR, gL_sA, gL_sQ, gL_sD]; first | done | assumption | with_reducible rfl) | rfl) ?_
  refine r_if_ne (tgt := 11) dJ2_isEmpty_4 (by decide) (fun h4 => ?_) (fun h4 => ?_)
  · rw [if_neg (fun q => h4 (by rw [q]; rfl))] at hQ
    refine r_iconst (v := nI 0) dJ2_isEmpty_11 (by decide) ?_
    refine r_ireturn dJ2_isEmpty_12 rfl (by first | rfl | assumption | exact vp_nar_int _ | exact pk_nc _) ?_
    exact hQ
  · rw [if_pos (Classical.byContradiction fun q => nI_ne0 (by omega) (by omega) h4)] at hQ
    refine r_iconst (v := nI 1) dJ2_isEmpty_7 (by decide) ?_
    refine r_goto (tgt := 12) dJ2_isEmpty_8 (by decide) ?_
    refine r_ireturn dJ2_isEmpty_12 rfl (by first | rfl | assumption | exact vp_nar_int _ | exact pk_nc _) ?_
    exact hQ
theorem s_pcheck {i : Nat} {r : Option Nat} (hi : i < n) (hn : n < 1000) (hQ : Qr (some (vI (nI i))) H) : AMet G d 0 0 yJ17_checkIndex wJ17_checkIndex H [vI (nI i), vI (nI n), vR r] Qr Qx := by
  refine AMet.of (M := mJ17_checkIndex) (maxL := 3) (by first | rfl | decide +kernel) rfl (Nat.le_of_ble_eq_true rfl) ?_
  show AW mJ17_checkIndex _ _ _ _ _ _ _ 0 [some (vI (nI i)), some (vI (nI n)), some (vR r)] []
  refine r_iload_n (i := 0) dJ17_checkIndex_0 rfl rfl ?_
  refine r_if_lt (tgt := 9) dJ17_checkIndex_1 (by decide) (fun h1 => ?_) (fun h1 => ?_)
  · exact absurd h1 (nI_pos (by omega))
  · refine r_iload_n (i := 0) dJ17_checkIndex_4 rfl rfl ?_
    refine r_iload_n (i := 1) dJ17_checkIndex_5 rfl rfl ?_
    refine r_icmp_lt (tgt := 16) dJ17_checkIndex_6 (by decide) (fun h6 => ?_) (fun h6 => ?_)
    · refine r_iload_n (i := 0) dJ17_checkIndex_16 rfl rfl ?_
      refine r_ireturn dJ17_checkIndex_17 rfl (by first | rfl | assumption | exact vp_nar_int _ | exact pk_nc _) ?_
      exact hQ
    · exact absurd (nI_lt hi (by omega)) h6
theorem s_ocheck {i : Nat} (hd : 1 ≤ d) (hi : i < n) (hn : n < 1000) (hQ : Qr (some (vI (nI i))) H) : AMet G d 0 0 yJ16_checkIndex wJ16_checkIndex H [vI (nI i), vI (nI n)] Qr Qx := by
  refine AMet.of (M := mJ16_checkIndex) (maxL := 2) (by first | rfl | decide +kernel) rfl (Nat.le_of_ble_eq_true rfl) ?_
  show AW mJ16_checkIndex _ _ _ _ _ _ _ 0 [some (vI (nI i)), some (vI (nI n))] []
  refine r_iload_n (i := 0) dJ16_checkIndex_0 rfl rfl ?_
  refine r_iload_n (i := 1) dJ16_checkIndex_1 rfl rfl ?_
  refine r_null dJ16_checkIndex_2 ?_
  refine r_callS (As := [_, _, _]) (mc' := 0) (ms' := 0) dJ16_checkIndex_3 k_J16_105 rfl (by first | assumption | omega) (by first | assumption | omega) (by first | assumption | omega) (Nat.le_of_ble_eq_true rfl) ?_
  refine s_pcheck hi hn ?_
  show AW mJ16_checkIndex G d Qr Qx _ _ _ 6 _ _
  refine r_ireturn dJ16_checkIndex_6 rfl (by first | rfl | assumption | exact vp_nar_int _ | exact pk_nc _) ?_
  exact hQ
/-- what a nonempty list's array holds -/
theorem LsO.arr (h : LsO G H L n xs e) {i : Nat} (hi : i < n) : kd H e = 4096 ∧ i < ln H e ∧ ln H e ≤ 22 ∧ gQ H 4096 e i = some (xs i) := by
  obtain ⟨a1, a2, a3, a4, a5⟩ := h
  rcases a5 with ⟨b1, b2⟩ | ⟨b1, b2, b3, b4, b5⟩
  · omega
  · exact ⟨b1, by omega, b4, b5 i hi⟩
theorem s_elementData {i : Nat} (h : LsO G H L n xs e) (hi : i < n) (hQ : Qr (some (vR (some (xs i)))) H) : AMet G d 0 0 yJ2_elementData wJ2_elementData H [vR (some L), vI (nI i)] Qr Qx := by
  obtain ⟨c1, c2, c3, c4⟩ := h.arr hi
  obtain ⟨a1, a2, a3, a4, a5⟩ := h
  obtain ⟨l1, hl1⟩ : ∃ l1, ln H e = l1 := ⟨_, rfl⟩
  rw [hl1] at c2 c3
  refine AMet.of (M := mJ2_elementData) (maxL := 2) (by first | rfl | decide +kernel) rfl (Nat.le_of_ble_eq_true rfl) ?_
  show AW mJ2_elementData _ _ _ _ _ _ _ 0 [some (vR (some L)), some (vI (nI i))] []
  refine r_aload_n (i := 0) dJ2_elementData_0 rfl rfl ?_
  refine r_getR dJ2_elementData_1 fR_J2_9 (by first | assumption | (simp only [kd_sI, kd_sR, kd_sA, kd_sQ, kd_sL, kd_sD, ln_sI, ln_sR, ln_sA, ln_sQ, ln_sL, ln_sD, gI_sR, gI_sA, gI_sQ, gI_sL, gI_sD, gR_sI, gR_sA, gR_sQ, gR_sL, gR_sD, gA_sI, gA_sR, gA_sQ, gA_sL, gA_sD, gQ_sI, gQ_sR, gQ_sA, gQ_sL, gQ_sD, gL_sI, gL_sR, gL_sA, gL_sQ, gL_sD]; assumption) | simp [kd_sI, kd_sR, kd_sA, kd_sQ, kd_sL, kd_sD, ln_sI, ln_sR, ln_sA, ln_sQ, ln_sL, ln_sD, gI_sR, gI_sA, gI_sQ, gI_sL, gI_sD, gR_sI, gR_sA, gR_sQ, gR_sL, gR_sD, gA_sI, gA_sR, gA_sQ, gA_sL, gA_sD, gQ_sI, gQ_sR, gQ_sA, gQ_sL, gQ_sD, gL_sI, gL_sR, gL_sA, gL_sQ, gL_sD, kd_nO, kd_nA, *]) (by first | assumption | exact gI_sIs | exact gR_sRs | with_reducible rfl | (simp only [kd_sI, kd_sR, kd_sA, kd_sQ, kd_sL, kd_sD, ln_sI, ln_sR, ln_sA, ln_sQ, ln_sL, ln_sD, gI_sR, gI_sA, gI_sQ, gI_sL, gI_sD, gR_sI, gR_sA, gR_sQ, gR_sL, gR_sD, gA_sI, gA_sR, gA_sQ, gA_sL, gA_sD, gQ_sI, gQ_sR, gQ_sA, gQ_sL, gQ_sD, gL_sI, gL_sR, gL_sA, gL_sQ, gL_sD]; first | done | assumption | with_reducible rfl) | rfl) ?_
  refine r_iload_n (i := 1) dJ2_elementData_4 rfl rfl ?_
  refine r_qald dJ2_elementData_5 (by first | assumption | (simp only [kd_sI, kd_sR, kd_sA, kd_sQ, kd_sL, kd_sD, ln_sI, ln_sR, ln_sA, ln_sQ, ln_sL, ln_sD, gI_sR, gI_sA, gI_sQ, gI_sL, gI_sD, gR_sI, gR_sA, gR_sQ, gR_sL, gR_sD, gA_sI, gA_sR, gA_sQ, gA_sL, gA_sD, gQ_sI, gQ_sR, gQ_sA, gQ_sL, gQ_sD, gL_sI, gL_sR, gL_sA, gL_sQ, gL_sD]; assumption) | simp [kd_sI, kd_sR, kd_sA, kd_sQ, kd_sL, kd_sD, ln_sI, ln_sR, ln_sA, ln_sQ, ln_sL, ln_sD, gI_sR, gI_sA, gI_sQ, gI_sL, gI_sD, gR_sI, gR_sA, gR_sQ, gR_sL, gR_sD, gA_sI, gA_sR, gA_sQ, gA_sL, gA_sD, gQ_sI, gQ_sR, gQ_sA, gQ_sL, gQ_sD, gL_sI, gL_sR, gL_sA, gL_sQ, gL_sD, kd_nO, kd_nA, *]) (by first | decide | assumption) (by first | assumption | exact gI_sIs | exact gR_sRs | with_reducible rfl | (simp only [kd_sI, kd_sR, kd_sA, kd_sQ, kd_sL, kd_sD, ln_sI, ln_sR, ln_sA, ln_sQ, ln_sL, ln_sD, gI_sR, gI_sA, gI_sQ, gI_sL, gI_sD, gR_sI, gR_sA, gR_sQ, gR_sL, gR_sD, gA_sI, gA_sR, gA_sQ, gA_sL, gA_sD, gQ_sI, gQ_sR, gQ_sA, gQ_sL, gQ_sD, gL_sI, gL_sR, gL_sA, gL_sQ, gL_sD]; first | done | assumption | with_reducible rfl) | rfl) (by first | with_reducible rfl | assumption | (simp only [nI_add, pk_mul, nI_1]; with_reducible rfl)) (by first | assumption | omega) (by first | assumption | omega) (by first | assumption | exact gI_sIs | exact gR_sRs | with_reducible rfl | (simp only [kd_sI, kd_sR, kd_sA, kd_sQ, kd_sL, kd_sD, ln_sI, ln_sR, ln_sA, ln_sQ, ln_sL, ln_sD, gI_sR, gI_sA, gI_sQ, gI_sL, gI_sD, gR_sI, gR_sA, gR_sQ, gR_sL, gR_sD, gA_sI, gA_sR, gA_sQ, gA_sL, gA_sD, gQ_sI, gQ_sR, gQ_sA, gQ_sL, gQ_sD, gL_sI, gL_sR, gL_sA, gL_sQ, gL_sD]; first | done | assumption | with_reducible rfl) | rfl) ?_
  refine r_areturn dJ2_elementData_6 rfl (by first | exact Or.inl ⟨_, rfl⟩ | exact Or.inr ⟨_, rfl⟩) ?_
  exact hQ
theorem s_get {i : Nat} (hd : 2 ≤ d) (h : LsO G H L n xs e) (hi : i < n) (hn : n < 1000) (hQ : Qr (some (vR (some (xs i)))) H) : AMet G d 0 0 yJ2_get wJ2_get H [vR (some L), vI (nI i)] Qr Qx := by
  have h0 := h
  obtain ⟨a1, a2, a3, a4, a5⟩ := h
  refine AMet.of (M := mJ2_get) (maxL := 2) (by first | rfl | decide +kernel) rfl (Nat.le_of_ble_eq_true rfl) ?_
  show AW mJ2_get _ _ _ _ _ _ _ 0 [some (vR (some L)), some (vI (nI i))] []
  refine r_iload_n (i := 1) dJ2_get_0 rfl rfl ?_
  refine r_aload_n (i := 0) dJ2_get_1 rfl rfl ?_
  refine r_getI dJ2_get_2 fR_J2_48 (by first | assumption | (simp only [kd_sI, kd_sR, kd_sA, kd_sQ, kd_sL, kd_sD, ln_sI, ln_sR, ln_sA, ln_sQ, ln_sL, ln_sD, gI_sR, gI_sA, gI_sQ, gI_sL, gI_sD, gR_sI, gR_sA, gR_sQ, gR_sL, gR_sD, gA_sI, gA_sR, gA_sQ, gA_sL, gA_sD, gQ_sI, gQ_sR, gQ_sA, gQ_sL, gQ_sD, gL_sI, gL_sR, gL_sA, gL_sQ, gL_sD]; assumption) | simp [kd_sI, kd_sR, kd_sA, kd_sQ, kd_sL, kd_sD, ln_sI, ln_sR, ln_sA, ln_sQ, ln_sL, ln_sD, gI_sR, gI_sA, gI_sQ, gI_sL, gI_sD, gR_sI, gR_sA, gR_sQ, gR_sL, gR_sD, gA_sI, gA_sR, gA_sQ, gA_sL, gA_sD, gQ_sI, gQ_sR, gQ_sA, gQ_sL, gQ_sD, gL_sI, gL_sR, gL_sA, gL_sQ, gL_sD, kd_nO, kd_nA, *]) (by first | assumption | exact gI_sIs | exact gR_sRs | with_reducible rfl | (simp only [kd_sI, kd_sR, kd_sA, kd_sQ, kd_sL, kd_sD, ln_sI, ln_sR, ln_sA, ln_sQ, ln_sL, ln_sD, gI_sR, gI_sA, gI_sQ, gI_sL, gI_sD, gR_sI, gR_sA, gR_sQ, gR_sL, gR_sD, gA_sI, gA_sR, gA_sQ, gA_sL, gA_sD, gQ_sI, gQ_sR, gQ_sA, gQ_sL, gQ_sD, gL_sI, gL_sR, gL_sA, gL_sQ, gL_sD]; first | done | assumption | with_reducible rfl) | rfl) ?_
  refine r_callS (As := [_, _]) (mc' := 0) (ms' := 0) dJ2_get_5 k_J2_118 rfl (by first | assumption | omega) (by first | assumption | omega) (by first | assumption | omega) (Nat.le_of_ble_eq_true rfl) ?_
  refine s_ocheck (by omega) hi hn ?_
  show AW mJ2_get G d Qr Qx _ _ _ 8 _ _
  refine r_pop dJ2_get_8 rfl ?_
  refine r_aload_n (i := 0) dJ2_get_9 rfl rfl ?_
  refine r_iload_n (i := 1) dJ2_get_10 rfl rfl ?_
  refine r_callV (As := [_]) (mc' := 0) (ms' := 0) dJ2_get_11 k_J2_123 rfl (by first | assumption | (simp only [kd_sI, kd_sR, kd_sA, kd_sQ, kd_sL, kd_sD, ln_sI, ln_sR, ln_sA, ln_sQ, ln_sL, ln_sD, gI_sR, gI_sA, gI_sQ, gI_sL, gI_sD, gR_sI, gR_sA, gR_sQ, gR_sL, gR_sD, gA_sI, gA_sR, gA_sQ, gA_sL, gA_sD, gQ_sI, gQ_sR, gQ_sA, gQ_sL, gQ_sD, gL_sI, gL_sR, gL_sA, gL_sQ, gL_sD]; assumption) | simp [kd_sI, kd_sR, kd_sA, kd_sQ, kd_sL, kd_sD, ln_sI, ln_sR, ln_sA, ln_sQ, ln_sL, ln_sD, gI_sR, gI_sA, gI_sQ, gI_sL, gI_sD, gR_sI, gR_sA, gR_sQ, gR_sL, gR_sD, gA_sI, gA_sR, gA_sQ, gA_sL, gA_sD, gQ_sI, gQ_sR, gQ_sA, gQ_sL, gQ_sD, gL_sI, gL_sR, gL_sA, gL_sQ, gL_sD, kd_nO, kd_nA, *]) (T := TJ2) (N := 3) rfl (by first | assumption | omega) (by first | assumption | omega) (by first | assumption | omega) (Nat.le_of_ble_eq_true rfl) ?_
  refine s_elementData h0 hi ?_
  show AW mJ2_get G d Qr Qx _ _ _ 14 _ _
  refine r_areturn dJ2_get_14 rfl (by first | exact Or.inl ⟨_, rfl⟩ | exact Or.inr ⟨_, rfl⟩) ?_
  exact hQ
theorem s_set {i x : Nat} (hd : 2 ≤ d) (h : LsO G H L n xs e) (hi : i < n) (hn : n < 1000) (hx : isObj G H x) (hQ : Ks (SL L e) H (sQ H 4096 e (va_up (gQ H 4096 e) i (some x))) → LsO G (sQ H 4096 e (va_up (gQ H 4096 e) i (some x))) L n (va_up xs i x) e → Qr (some (vR (some (xs i)))) (sQ H 4096 e (va_up (gQ H 4096 e) i (some x)))) : AMet G d 0 0 yJ2_set wJ2_set H [vR (some L), vI (nI i), vR (some x)] Qr Qx := by
  have h0 := h
  obtain ⟨c1, c2, c3, c4⟩ := h.arr hi
  obtain ⟨a1, a2, a3, a4, a5⟩ := h
  obtain ⟨l1, hl1⟩ : ∃ l1, ln H e = l1 := ⟨_, rfl⟩
  rw [hl1] at c2 c3
  have hKs : Ks (SL L e) H (sQ H 4096 e (va_up (gQ H 4096 e) i (some x))) := Ks.rf.sQ (fun _ => Or.inr rfl)
  have hLS : LsO G (sQ H 4096 e (va_up (gQ H 4096 e) i (some x))) L n (va_up xs i x) e := by
    refine ⟨a1, a2, a3, fun j hj => ?_, ?_⟩
    · unfold va_up
      by_cases hji : j = i
      · rw [if_pos hji]
        exact hx.ks hKs
      · rw [if_neg hji]
        exact (a4 j hj).ks hKs
    · rcases a5 with ⟨b1, b2⟩ | ⟨b1, b2, b3, b4, b5⟩
      · omega
      · refine Or.inr ⟨b1, b2, b3, b4, fun j hj => ?_⟩
        rw [gQ_sQs]
        unfold va_up
        by_cases hji : j = i
        · rw [if_pos hji, if_pos hji]
        · rw [if_neg hji, if_neg hji]
          exact b5 j hj
  refine AMet.of (M := mJ2_set) (maxL := 4) (by first | rfl | decide +kernel) rfl (Nat.le_of_ble_eq_true rfl) ?_
  show AW mJ2_set _ _ _ _ _ _ _ 0 [some (vR (some L)), some (vI (nI i)), some (vR (some x)), none] []
  refine r_iload_n (i := 1) dJ2_set_0 rfl rfl ?_
  refine r_aload_n (i := 0) dJ2_set_1 rfl rfl ?_
  refine r_getI dJ2_set_2 fR_J2_48 (by first | assumption | (simp only [kd_sI, kd_sR, kd_sA, kd_sQ, kd_sL, kd_sD, ln_sI, ln_sR, ln_sA, ln_sQ, ln_sL, ln_sD, gI_sR, gI_sA, gI_sQ, gI_sL, gI_sD, gR_sI, gR_sA, gR_sQ, gR_sL, gR_sD, gA_sI, gA_sR, gA_sQ, gA_sL, gA_sD, gQ_sI, gQ_sR, gQ_sA, gQ_sL, gQ_sD, gL_sI, gL_sR, gL_sA, gL_sQ, gL_sD]; assumption) | simp [kd_sI, kd_sR, kd_sA, kd_sQ, kd_sL, kd_sD, ln_sI, ln_sR, ln_sA, ln_sQ, ln_sL, ln_sD, gI_sR, gI_sA, gI_sQ, gI_sL, gI_sD, gR_sI, gR_sA, gR_sQ, gR_sL, gR_sD, gA_sI, gA_sR, gA_sQ, gA_sL, gA_sD, gQ_sI, gQ_sR, gQ_sA, gQ_sL, gQ_sD, gL_sI, gL_sR, gL_sA, gL_sQ, gL_sD, kd_nO, kd_nA, *]) (by first | assumption | exact gI_sIs | exact gR_sRs | with_reducible rfl | (simp only [kd_sI, kd_sR, kd_sA, kd_sQ, kd_sL, kd_sD, ln_sI, ln_sR, ln_sA, ln_sQ, ln_sL, ln_sD, gI_sR, gI_sA, gI_sQ, gI_sL, gI_sD, gR_sI, gR_sA, gR_sQ, gR_sL, gR_sD, gA_sI, gA_sR, gA_sQ, gA_sL, gA_sD, gQ_sI, gQ_sR, gQ_sA, gQ_sL, gQ_sD, gL_sI, gL_sR, gL_sA, gL_sQ, gL_sD]; first | done | assumption | with_reducible rfl) | rfl) ?_
  refine r_callS (As := [_, _]) (mc' := 0) (ms' := 0) dJ2_set_5 k_J2_118 rfl (by first | assumption | omega) (by first | assumption | omega) (by first | assumption | omega) (Nat.le_of_ble_eq_true rfl) ?_
  refine s_ocheck (by omega) hi hn ?_
  show AW mJ2_set G d Qr Qx _ _ _ 8 _ _
  refine r_pop dJ2_set_8 rfl ?_
  refine r_aload_n (i := 0) dJ2_set_9 rfl rfl ?_
  refine r_iload_n (i := 1) dJ2_set_10 rfl rfl ?_
  refine r_callV (As := [_]) (mc' := 0) (ms' := 0) dJ2_set_11 k_J2_123 rfl (by first | assumption | (simp only [kd_sI, kd_sR, kd_sA, kd_sQ, kd_sL, kd_sD, ln_sI, ln_sR, ln_sA, ln_sQ, ln_sL, ln_sD, gI_sR, gI_sA, gI_sQ, gI_sL, gI_sD, gR_sI, gR_sA, gR_sQ, gR_sL, gR_sD, gA_sI, gA_sR, gA_sQ, gA_sL, gA_sD, gQ_sI, gQ_sR, gQ_sA, gQ_sL, gQ_sD, gL_sI, gL_sR, gL_sA, gL_sQ, gL_sD]; assumption) | simp [kd_sI, kd_sR, kd_sA, kd_sQ, kd_sL, kd_sD, ln_sI, ln_sR, ln_sA, ln_sQ, ln_sL, ln_sD, gI_sR, gI_sA, gI_sQ, gI_sL, gI_sD, gR_sI, gR_sA, gR_sQ, gR_sL, gR_sD, gA_sI, gA_sR, gA_sQ, gA_sL, gA_sD, gQ_sI, gQ_sR, gQ_sA, gQ_sL, gQ_sD, gL_sI, gL_sR, gL_sA, gL_sQ, gL_sD, kd_nO, kd_nA, *]) (T := TJ2) (N := 3) rfl (by first | assumption | omega) (by first | assumption | omega) (by first | assumption | omega) (Nat.le_of_ble_eq_true rfl) ?_
  refine s_elementData h0 hi ?_
  show AW mJ2_set G d Qr Qx _ _ _ 14 _ _
  refine r_astore_n (i := 3) dJ2_set_14 rfl (Nat.le_of_ble_eq_true rfl) (by simp only [lset]; rfl) ?_
  refine r_aload_n (i := 0) dJ2_set_15 rfl rfl ?_
  refine r_getR dJ2_set_16 fR_J2_9 (by first | assumption | (simp only [kd_sI, kd_sR, kd_sA, kd_sQ, kd_sL, kd_sD, ln_sI, ln_sR, ln_sA, ln_sQ, ln_sL, ln_sD, gI_sR, gI_sA, gI_sQ, gI_sL, gI_sD, gR_sI, gR_sA, gR_sQ, gR_sL, gR_sD, gA_sI, gA_sR, gA_sQ, gA_sL, gA_sD, gQ_sI, gQ_sR, gQ_sA, gQ_sL, gQ_sD, gL_sI, gL_sR, gL_sA, gL_sQ, gL_sD]; assumption) | simp [kd_sI, kd_sR, kd_sA, kd_sQ, kd_sL, kd_sD, ln_sI, ln_sR, ln_sA, ln_sQ, ln_sL, ln_sD, gI_sR, gI_sA, gI_sQ, gI_sL, gI_sD, gR_sI, gR_sA, gR_sQ, gR_sL, gR_sD, gA_sI, gA_sR, gA_sQ, gA_sL, gA_sD, gQ_sI, gQ_sR, gQ_sA, gQ_sL, gQ_sD, gL_sI, gL_sR, gL_sA, gL_sQ, gL_sD, kd_nO, kd_nA, *]) (by first | assumption | exact gI_sIs | exact gR_sRs | with_reducible rfl | (simp only [kd_sI, kd_sR, kd_sA, kd_sQ, kd_sL, kd_sD, ln_sI, ln_sR, ln_sA, ln_sQ, ln_sL, ln_sD, gI_sR, gI_sA, gI_sQ, gI_sL, gI_sD, gR_sI, gR_sA, gR_sQ, gR_sL, gR_sD, gA_sI, gA_sR, gA_sQ, gA_sL, gA_sD, gQ_sI, gQ_sR, gQ_sA, gQ_sL, gQ_sD, gL_sI, gL_sR, gL_sA, gL_sQ, gL_sD]; first | done | assumption | with_reducible rfl) | rfl) ?_
  refine r_iload_n (i := 1) dJ2_set_19 rfl rfl ?_
  refine r_aload_n (i := 2) dJ2_set_20 rfl rfl ?_
  refine r_qast dJ2_set_21 (by first | assumption | (simp only [kd_sI, kd_sR, kd_sA, kd_sQ, kd_sL, kd_sD, ln_sI, ln_sR, ln_sA, ln_sQ, ln_sL, ln_sD, gI_sR, gI_sA, gI_sQ, gI_sL, gI_sD, gR_sI, gR_sA, gR_sQ, gR_sL, gR_sD, gA_sI, gA_sR, gA_sQ, gA_sL, gA_sD, gQ_sI, gQ_sR, gQ_sA, gQ_sL, gQ_sD, gL_sI, gL_sR, gL_sA, gL_sQ, gL_sD]; assumption) | simp [kd_sI, kd_sR, kd_sA, kd_sQ, kd_sL, kd_sD, ln_sI, ln_sR, ln_sA, ln_sQ, ln_sL, ln_sD, gI_sR, gI_sA, gI_sQ, gI_sL, gI_sD, gR_sI, gR_sA, gR_sQ, gR_sL, gR_sD, gA_sI, gA_sR, gA_sQ, gA_sL, gA_sD, gQ_sI, gQ_sR, gQ_sA, gQ_sL, gQ_sD, gL_sI, gL_sR, gL_sA, gL_sQ, gL_sD, kd_nO, kd_nA, *]) (by decide) (by first | assumption | exact gI_sIs | exact gR_sRs | with_reducible rfl | (simp only [kd_sI, kd_sR, kd_sA, kd_sQ, kd_sL, kd_sD, ln_sI, ln_sR, ln_sA, ln_sQ, ln_sL, ln_sD, gI_sR, gI_sA, gI_sQ, gI_sL, gI_sD, gR_sI, gR_sA, gR_sQ, gR_sL, gR_sD, gA_sI, gA_sR, gA_sQ, gA_sL, gA_sD, gQ_sI, gQ_sR, gQ_sA, gQ_sL, gQ_sD, gL_sI, gL_sR, gL_sA, gL_sQ, gL_sD]; first | done | assumption | with_reducible rfl) | rfl) (by first | with_reducible rfl | assumption | (simp only [nI_add, pk_mul, nI_1]; with_reducible rfl)) (by first | assumption | omega) (by first | assumption | omega) ?_ ?_
  · intro b hb
    cases hb
    exact hx
  · refine r_aload_n (i := 3) dJ2_set_22 rfl rfl ?_
    refine r_areturn dJ2_set_23 rfl (by first | exact Or.inl ⟨_, rfl⟩ | exact Or.inr ⟨_, rfl⟩) ?_
    exact hQ hKs hLS
end ArrL
