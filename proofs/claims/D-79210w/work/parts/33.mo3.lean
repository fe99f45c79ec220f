set_option maxRecDepth 100000
theorem nx_and (a b : Nat) : nI a &&& nI b = nI (a &&& b) := by
  apply Int32.toBitVec_inj.1
  show BitVec.ofNat 32 a &&& BitVec.ofNat 32 b = BitVec.ofNat 32 (a &&& b)
  apply BitVec.eq_of_getLsbD_eq
  intro i hi
  simp [hi]
/-- how many steps the loop v &= v - 1 takes to 0 -/
def popF : Nat → Nat → Nat
  | 0, _ => 0
  | k + 1, v => if v = 0 then 0 else 1 + popF k (v &&& (v - 1))
theorem popF_ge : ∀ (v k : Nat), v ≤ k → popF k v = popF v v := by
  intro v
  induction v using Nat.strongRecOn with
  | _ v ih =>
    intro k hk
    by_cases h0 : v = 0
    · subst h0
      cases k <;> simp [popF]
    · obtain ⟨k', rfl⟩ : ∃ k', k = k' + 1 := ⟨k - 1, by omega⟩
      obtain ⟨v', rfl⟩ : ∃ v', v = v' + 1 := ⟨v - 1, by omega⟩
      have hle : (v' + 1) &&& (v' + 1 - 1) ≤ v' := by rw [Nat.add_sub_cancel]; exact Nat.and_le_right
      have e1 := ih ((v' + 1) &&& (v' + 1 - 1)) (by omega) k' (by omega)
      have e2 := ih ((v' + 1) &&& (v' + 1 - 1)) (by omega) v' (by omega)
      show (if v' + 1 = 0 then 0 else 1 + popF k' ((v' + 1) &&& (v' + 1 - 1))) = if v' + 1 = 0 then 0 else 1 + popF v' ((v' + 1) &&& (v' + 1 - 1))
      rw [if_neg (by omega), if_neg (by omega), e1, e2]
def popN (v : Nat) : Nat := popF v v
theorem popN_0 : popN 0 = 0 := rfl
theorem popN_s {v : Nat} (h : v ≠ 0) : popN v = 1 + popN (v &&& (v - 1)) := by
  obtain ⟨v', rfl⟩ : ∃ v', v = v' + 1 := ⟨v - 1, by omega⟩
  have hle : (v' + 1) &&& (v' + 1 - 1) ≤ v' := by rw [Nat.add_sub_cancel]; exact Nat.and_le_right
  show (if v' + 1 = 0 then 0 else 1 + popF v' ((v' + 1) &&& (v' + 1 - 1))) = _
  rw [if_neg (by omega), popF_ge _ v' hle]
  rfl
theorem dec_m1 {i : Nat} (h : 0 < i) : nI i - nI 1 + Int32.ofInt (-1) = nI (i - 1) - nI 1 := by
  obtain ⟨j, rfl⟩ : ∃ j, i = j + 1 := ⟨i - 1, by omega⟩
  rw [Nat.add_sub_cancel, pk_sub (by omega), Nat.add_sub_cancel]
  apply Int32.toBitVec_inj.1
  show BitVec.ofNat 32 j + BitVec.ofInt 32 (-1) = BitVec.ofNat 32 j - BitVec.ofNat 32 1
  rw [BitVec.sub_eq_add_neg]
  rfl
def q_areas (g : Nat → Int32) (t : Nat) : Int32 := sumN (fun k => q_area g (nI t) (nI k)) (nat g (45 + 5 * t))
def q_len (g : Nat → Int32) (c : Nat) : Int32 := sumN (fun k => g (43 + 5 * nat g (109 + 21 * c + k))) (nat g (106 + 21 * c))
def q_need (g : Nat → Int32) (c : Nat) : Int32 := q_len g c + nI 2 * g 1
def q_now (g : Nat → Int32) (c : Nat) : Int32 := if g (105 + 21 * c) = nI 1 then q_need g c else g (107 + 21 * c)
def q_drums (g : Nat → Int32) (w : Nat) (ty : Int32) : Int32 := sumN (fun d => if ty < 0 ∨ g (355 + 3 * d) = ty then (if w = 0 then nI 1 else g (355 + 3 * d + w)) else nI 0) (nat g 354)
def q_cuts (g : Nat → Int32) : Int32 := sumN (fun c => if g (105 + 21 * c) = nI 2 then g (107 + 21 * c) else nI 0) (nat g 101)
section Mo3
variable {G : Gl} {d m : Nat} {ma : Nat → Nat} {Qr : Option AV → AH → Prop} {Qx : String → Nat → AH → Prop} {H : AH}
theorem s_bitsOf {v : Nat} (hv : v < 65536) (hQ : Qr (some (vI (nI (popN v)))) H) : AMet G d 0 0 yX3_bitsOf wX3_bitsOf H [vI (nI v)] Qr Qx := by
  refine AMet.of (M := mX3_bitsOf) (maxL := 3) rfl rfl (Nat.le_of_ble_eq_true rfl) ?_
  show AW mX3_bitsOf _ _ _ _ _ _ _ 0 [some (vI (nI v)), none, none] []
  refine r_iconst (v := nI 0) dX3_bitsOf_0 (by decide) ?_
  refine r_istore_n (i := 1) dX3_bitsOf_1 rfl (Nat.le_of_ble_eq_true rfl) (by simp only [lset]; rfl) ?_
  refine r_iload_n (i := 0) dX3_bitsOf_2 rfl rfl ?_
  refine r_istore_n (i := 2) dX3_bitsOf_3 rfl (Nat.le_of_ble_eq_true rfl) (by simp only [lset]; rfl) ?_
  have loop : ∀ (n w i : Nat), w ≤ n → w < 65536 → popN v = i + popN w → AW mX3_bitsOf G d Qr Qx 0 0 H 4 [some (vI (nI v)), some (vI (nI i)), some (vI (nI w))] [] := by
    intro n
    induction n with
    | zero =>
      intro w i h1 h2 h3
      have h0 : w = 0 := by omega
      subst h0
      rw [popN_0, Nat.add_zero] at h3
      rw [h3] at hQ
      refine r_iload_n (i := 2) dX3_bitsOf_4 rfl rfl ?_
      refine r_if_eq (tgt := 20) dX3_bitsOf_5 (by decide) (fun h5 => ?_) (fun h5 => ?_)
      · refine r_iload_n (i := 1) dX3_bitsOf_20 rfl rfl ?_
        refine r_ireturn dX3_bitsOf_21 rfl (by first | rfl | assumption | exact vp_nar_int _) ?_
        exact hQ
      · exact absurd (by decide) h5
    | succ n ih =>
      intro w i h1 h2 h3
      refine r_iload_n (i := 2) dX3_bitsOf_4 rfl rfl ?_
      refine r_if_eq (tgt := 20) dX3_bitsOf_5 (by decide) (fun h5 => ?_) (fun h5 => ?_)
      · have h0 : w = 0 := by
          rcases Nat.eq_zero_or_pos w with q | q
          · exact q
          · exact absurd h5 (nI_ne0 q (by omega))
        subst h0
        rw [popN_0, Nat.add_zero] at h3
        rw [h3] at hQ
        refine r_iload_n (i := 1) dX3_bitsOf_20 rfl rfl ?_
        refine r_ireturn dX3_bitsOf_21 rfl (by first | rfl | assumption | exact vp_nar_int _) ?_
        exact hQ
      · have h0 : w ≠ 0 := fun q => h5 (by rw [q]; decide)
        refine r_iinc dX3_bitsOf_8 rfl (by first | exact nI_1 _ | rfl) (by simp only [lset]; rfl) ?_
        refine r_iload_n (i := 2) dX3_bitsOf_11 rfl rfl ?_
        refine r_iload_n (i := 2) dX3_bitsOf_12 rfl rfl ?_
        refine r_iconst (v := nI 1) dX3_bitsOf_13 (by decide) ?_
        refine r_isub dX3_bitsOf_14 ?_
        rw [pk_sub (by omega)]
        refine r_iand dX3_bitsOf_15 ?_
        rw [nx_and]
        refine r_istore_n (i := 2) dX3_bitsOf_16 rfl (Nat.le_of_ble_eq_true rfl) (by simp only [lset]; rfl) ?_
        refine r_goto (tgt := 4) dX3_bitsOf_17 (by decide) ?_
        have hle : w &&& (w - 1) ≤ w - 1 := Nat.and_le_right
        exact ih _ _ (by omega) (by omega) (by rw [h3, popN_s h0]; omega)
  exact loop v v 0 (Nat.le_refl _) hv (by omega)
theorem s_areasIn {t : Nat} (hd : 4 ≤ d) (hM : MO H m ma) (hB : GB (gA H 1068 (ma 68))) (ht : t < nat (gA H 1068 (ma 68)) 40) (hQ : Qr (some (vI (q_areas (gA H 1068 (ma 68)) t))) H) : AMet G d 0 0 yX3_areasIn wX3_areasIn H [vR (some m), vI (nI t)] Qr Qx := by
  have e0 := hM.1
  have hR := hB.2.1.2
  obtain ⟨⟨hk1, hk2⟩, hk3⟩ := hB.2.2.2.2.1 t ht
  unfold q_areas at hQ
  obtain ⟨n, hn⟩ : ∃ n, n = nat (gA H 1068 (ma 68)) (45 + 5 * t) := ⟨_, rfl⟩
  rw [← hn] at hk1 hk2 hQ
  refine AMet.of (M := mX3_areasIn) (maxL := 4) rfl rfl (Nat.le_of_ble_eq_true rfl) ?_
  show AW mX3_areasIn _ _ _ _ _ _ _ 0 [some (vR (some m)), some (vI (nI t)), none, none] []
  refine r_iconst (v := nI 0) dX3_areasIn_0 (by decide) ?_
  refine r_istore_n (i := 2) dX3_areasIn_1 rfl (Nat.le_of_ble_eq_true rfl) (by simp only [lset]; rfl) ?_
  refine r_iconst (v := nI 0) dX3_areasIn_2 (by decide) ?_
  refine r_istore_n (i := 3) dX3_areasIn_3 rfl (Nat.le_of_ble_eq_true rfl) (by simp only [lset]; rfl) ?_
  have loop : ∀ (k i : Nat), i + k = n → AW mX3_areasIn G d Qr Qx 0 0 H 4 [some (vR (some m)), some (vI (nI t)), some (vI (sumN (fun k => q_area (gA H 1068 (ma 68)) (nI t) (nI k)) i)), some (vI (nI i))] [] := by
    intro k
    induction k with
    | zero =>
      intro i hi
      refine r_iload_n (i := 3) dX3_areasIn_4 rfl rfl ?_
      refine r_aload_n (i := 0) dX3_areasIn_5 rfl rfl ?_
      refine r_iload_n (i := 1) dX3_areasIn_6 rfl rfl ?_
      refine r_iconst (v := nI 4) dX3_areasIn_7 (by decide) ?_
      refine r_callV (As := [_, _]) (mc' := 0) (ms' := 0) dX3_areasIn_8 k_X3_121 rfl (by first | assumption | (simp only [kd_sI, kd_sR, kd_sA, kd_sQ, kd_sL, kd_sD, ln_sI, ln_sR, ln_sA, ln_sQ, ln_sL, ln_sD, gI_sR, gI_sA, gI_sQ, gI_sL, gI_sD, gR_sI, gR_sA, gR_sQ, gR_sL, gR_sD, gA_sI, gA_sR, gA_sQ, gA_sL, gA_sD, gQ_sI, gQ_sR, gQ_sA, gQ_sL, gQ_sD, gL_sI, gL_sR, gL_sA, gL_sQ, gL_sD]; assumption) | simp [kd_sI, kd_sR, kd_sA, kd_sQ, kd_sL, kd_sD, ln_sI, ln_sR, ln_sA, ln_sQ, ln_sL, ln_sD, gI_sR, gI_sA, gI_sQ, gI_sL, gI_sD, gR_sI, gR_sA, gR_sQ, gR_sL, gR_sD, gA_sI, gA_sR, gA_sQ, gA_sL, gA_sD, gQ_sI, gQ_sR, gQ_sA, gQ_sL, gQ_sD, gL_sI, gL_sR, gL_sA, gL_sQ, gL_sD, kd_nO, kd_nA, *]) (T := TX3) (N := 27) rfl (by first | assumption | omega) (by first | assumption | omega) (by first | assumption | omega) (Nat.le_of_ble_eq_true rfl) ?_
      refine s_trayTold hM (by omega) ?_
      rw [show 41 + 5 * t + 4 = 45 + 5 * t by omega, hk1]
      refine r_icmp_ge (tgt := 29) dX3_areasIn_11 (by decide) (fun h11 => ?_) (fun h11 => ?_)
      · refine r_iload_n (i := 2) dX3_areasIn_29 rfl rfl ?_
        refine r_ireturn dX3_areasIn_30 rfl (by first | rfl | assumption | exact vp_nar_int _) ?_
        rw [show n = i by omega] at hQ
        exact hQ
      · exact absurd (nI_le (by omega) (by omega)) h11
    | succ k ih =>
      intro i hi
      refine r_iload_n (i := 3) dX3_areasIn_4 rfl rfl ?_
      refine r_aload_n (i := 0) dX3_areasIn_5 rfl rfl ?_
      refine r_iload_n (i := 1) dX3_areasIn_6 rfl rfl ?_
      refine r_iconst (v := nI 4) dX3_areasIn_7 (by decide) ?_
      refine r_callV (As := [_, _]) (mc' := 0) (ms' := 0) dX3_areasIn_8 k_X3_121 rfl (by first | assumption | (simp only [kd_sI, kd_sR, kd_sA, kd_sQ, kd_sL, kd_sD, ln_sI, ln_sR, ln_sA, ln_sQ, ln_sL, ln_sD, gI_sR, gI_sA, gI_sQ, gI_sL, gI_sD, gR_sI, gR_sA, gR_sQ, gR_sL, gR_sD, gA_sI, gA_sR, gA_sQ, gA_sL, gA_sD, gQ_sI, gQ_sR, gQ_sA, gQ_sL, gQ_sD, gL_sI, gL_sR, gL_sA, gL_sQ, gL_sD]; assumption) | simp [kd_sI, kd_sR, kd_sA, kd_sQ, kd_sL, kd_sD, ln_sI, ln_sR, ln_sA, ln_sQ, ln_sL, ln_sD, gI_sR, gI_sA, gI_sQ, gI_sL, gI_sD, gR_sI, gR_sA, gR_sQ, gR_sL, gR_sD, gA_sI, gA_sR, gA_sQ, gA_sL, gA_sD, gQ_sI, gQ_sR, gQ_sA, gQ_sL, gQ_sD, gL_sI, gL_sR, gL_sA, gL_sQ, gL_sD, kd_nO, kd_nA, *]) (T := TX3) (N := 27) rfl (by first | assumption | omega) (by first | assumption | omega) (by first | assumption | omega) (Nat.le_of_ble_eq_true rfl) ?_
      refine s_trayTold hM (by omega) ?_
      rw [show 41 + 5 * t + 4 = 45 + 5 * t by omega, hk1]
      refine r_icmp_ge (tgt := 29) dX3_areasIn_11 (by decide) (fun h11 => ?_) (fun h11 => ?_)
      · exact absurd h11 (nI_ge (by omega) (by omega))
      · refine r_iload_n (i := 2) dX3_areasIn_14 rfl rfl ?_
        refine r_aload_n (i := 0) dX3_areasIn_15 rfl rfl ?_
        refine r_iload_n (i := 1) dX3_areasIn_16 rfl rfl ?_
        refine r_iload_n (i := 3) dX3_areasIn_17 rfl rfl ?_
        refine r_callV (As := [_, _]) (mc' := 0) (ms' := 0) dX3_areasIn_18 k_X3_133 rfl (by first | assumption | (simp only [kd_sI, kd_sR, kd_sA, kd_sQ, kd_sL, kd_sD, ln_sI, ln_sR, ln_sA, ln_sQ, ln_sL, ln_sD, gI_sR, gI_sA, gI_sQ, gI_sL, gI_sD, gR_sI, gR_sA, gR_sQ, gR_sL, gR_sD, gA_sI, gA_sR, gA_sQ, gA_sL, gA_sD, gQ_sI, gQ_sR, gQ_sA, gQ_sL, gQ_sD, gL_sI, gL_sR, gL_sA, gL_sQ, gL_sD]; assumption) | simp [kd_sI, kd_sR, kd_sA, kd_sQ, kd_sL, kd_sD, ln_sI, ln_sR, ln_sA, ln_sQ, ln_sL, ln_sD, gI_sR, gI_sA, gI_sQ, gI_sL, gI_sD, gR_sI, gR_sA, gR_sQ, gR_sL, gR_sD, gA_sI, gA_sR, gA_sQ, gA_sL, gA_sD, gQ_sI, gQ_sR, gQ_sA, gQ_sL, gQ_sD, gL_sI, gL_sR, gL_sA, gL_sQ, gL_sD, kd_nO, kd_nA, *]) (T := TX3) (N := 27) rfl (by first | assumption | omega) (by first | assumption | omega) (by first | assumption | omega) (Nat.le_of_ble_eq_true rfl) ?_
        refine s_areaIn (by omega) hM hB ?_
        refine r_iadd dX3_areasIn_21 ?_
        refine r_istore_n (i := 2) dX3_areasIn_22 rfl (Nat.le_of_ble_eq_true rfl) (by simp only [lset]; rfl) ?_
        refine r_iinc dX3_areasIn_23 rfl (by first | exact nI_1 _ | rfl) (by simp only [lset]; rfl) ?_
        refine r_goto (tgt := 4) dX3_areasIn_26 (by decide) ?_
        exact ih (i + 1) (by omega)
  exact loop n 0 (by omega)
theorem s_placeIn {t ty : Nat} (hd : 4 ≤ d) (hM : MO H m ma) (hB : GB (gA H 1068 (ma 68))) (ht : t < nat (gA H 1068 (ma 68)) 40) (hty : ty < nat (gA H 1068 (ma 68)) 3) (hQ : Qr (some (vI (oI (q_place (gA H 1068 (ma 68)) t ty)))) H) : AMet G d 0 0 yX3_placeIn wX3_placeIn H [vR (some m), vI (nI t), vI (nI ty)] Qr Qx := by
  have e0 := hM.1
  have hR := hB.2.1.2
  have hT := hB.1.2
  obtain ⟨⟨hk1, hk2⟩, hk3⟩ := hB.2.2.2.2.1 t ht
  obtain ⟨n, hn⟩ : ∃ n, n = nat (gA H 1068 (ma 68)) (45 + 5 * t) := ⟨_, rfl⟩
  rw [← hn] at hk1 hk2 hk3
  refine AMet.of (M := mX3_placeIn) (maxL := 5) rfl rfl (Nat.le_of_ble_eq_true rfl) ?_
  show AW mX3_placeIn _ _ _ _ _ _ _ 0 [some (vR (some m)), some (vI (nI t)), some (vI (nI ty)), none, none] []
  refine r_iconst (v := -1) dX3_placeIn_0 (by decide) ?_
  refine r_istore_n (i := 3) dX3_placeIn_1 rfl (Nat.le_of_ble_eq_true rfl) (by simp only [lset]; rfl) ?_
  refine r_aload_n (i := 0) dX3_placeIn_2 rfl rfl ?_
  refine r_iload_n (i := 1) dX3_placeIn_3 rfl rfl ?_
  refine r_iconst (v := nI 4) dX3_placeIn_4 (by decide) ?_
  refine r_callV (As := [_, _]) (mc' := 0) (ms' := 0) dX3_placeIn_5 k_X3_121 rfl (by first | assumption | (simp only [kd_sI, kd_sR, kd_sA, kd_sQ, kd_sL, kd_sD, ln_sI, ln_sR, ln_sA, ln_sQ, ln_sL, ln_sD, gI_sR, gI_sA, gI_sQ, gI_sL, gI_sD, gR_sI, gR_sA, gR_sQ, gR_sL, gR_sD, gA_sI, gA_sR, gA_sQ, gA_sL, gA_sD, gQ_sI, gQ_sR, gQ_sA, gQ_sL, gQ_sD, gL_sI, gL_sR, gL_sA, gL_sQ, gL_sD]; assumption) | simp [kd_sI, kd_sR, kd_sA, kd_sQ, kd_sL, kd_sD, ln_sI, ln_sR, ln_sA, ln_sQ, ln_sL, ln_sD, gI_sR, gI_sA, gI_sQ, gI_sL, gI_sD, gR_sI, gR_sA, gR_sQ, gR_sL, gR_sD, gA_sI, gA_sR, gA_sQ, gA_sL, gA_sD, gQ_sI, gQ_sR, gQ_sA, gQ_sL, gQ_sD, gL_sI, gL_sR, gL_sA, gL_sQ, gL_sD, kd_nO, kd_nA, *]) (T := TX3) (N := 27) rfl (by first | assumption | omega) (by first | assumption | omega) (by first | assumption | omega) (Nat.le_of_ble_eq_true rfl) ?_
  refine s_trayTold hM (by omega) ?_
  rw [show 41 + 5 * t + 4 = 45 + 5 * t by omega, hk1]
  refine r_iconst (v := nI 1) dX3_placeIn_8 (by decide) ?_
  refine r_isub dX3_placeIn_9 ?_
  refine r_istore dX3_placeIn_10 (Nat.le_of_ble_eq_true rfl) (by simp only [lset]; rfl) ?_
  have loop2 : ∀ (k i : Nat), i + k = n → find9 (fun k => q_class (gA H 1068 (ma 68)) (nI t) (nI k) == gA H 1068 (ma 68) (8 + 6 * ty) && q_fit (gA H 1068 (ma 68)) t ty k) 0 n = find9 (fun k => q_class (gA H 1068 (ma 68)) (nI t) (nI k) == gA H 1068 (ma 68) (8 + 6 * ty) && q_fit (gA H 1068 (ma 68)) t ty k) i k → AW mX3_placeIn G d Qr Qx 0 0 H 66 [some (vR (some m)), some (vI (nI t)), some (vI (nI ty)), some (vI (oI (find9 (fun k => q_fit (gA H 1068 (ma 68)) t ty k && decide (q_class (gA H 1068 (ma 68)) (nI t) (nI k) < 0)) 0 n))), some (vI (nI i))] [] := by
    intro k
    induction k with
    | zero =>
      intro i hi hf
      refine r_iload dX3_placeIn_66 rfl ?_
      refine r_aload_n (i := 0) dX3_placeIn_68 rfl rfl ?_
      refine r_iload_n (i := 1) dX3_placeIn_69 rfl rfl ?_
      refine r_iconst (v := nI 4) dX3_placeIn_70 (by decide) ?_
      refine r_callV (As := [_, _]) (mc' := 0) (ms' := 0) dX3_placeIn_71 k_X3_121 rfl (by first | assumption | (simp only [kd_sI, kd_sR, kd_sA, kd_sQ, kd_sL, kd_sD, ln_sI, ln_sR, ln_sA, ln_sQ, ln_sL, ln_sD, gI_sR, gI_sA, gI_sQ, gI_sL, gI_sD, gR_sI, gR_sA, gR_sQ, gR_sL, gR_sD, gA_sI, gA_sR, gA_sQ, gA_sL, gA_sD, gQ_sI, gQ_sR, gQ_sA, gQ_sL, gQ_sD, gL_sI, gL_sR, gL_sA, gL_sQ, gL_sD]; assumption) | simp [kd_sI, kd_sR, kd_sA, kd_sQ, kd_sL, kd_sD, ln_sI, ln_sR, ln_sA, ln_sQ, ln_sL, ln_sD, gI_sR, gI_sA, gI_sQ, gI_sL, gI_sD, gR_sI, gR_sA, gR_sQ, gR_sL, gR_sD, gA_sI, gA_sR, gA_sQ, gA_sL, gA_sD, gQ_sI, gQ_sR, gQ_sA, gQ_sL, gQ_sD, gL_sI, gL_sR, gL_sA, gL_sQ, gL_sD, kd_nO, kd_nA, *]) (T := TX3) (N := 27) rfl (by first | assumption | omega) (by first | assumption | omega) (by first | assumption | omega) (Nat.le_of_ble_eq_true rfl) ?_
      refine s_trayTold hM (by omega) ?_
      rw [show 41 + 5 * t + 4 = 45 + 5 * t by omega, hk1]
      refine r_icmp_ge (tgt := 128) dX3_placeIn_74 (by decide) (fun h74 => ?_) (fun h74 => ?_)
      · refine r_iload_n (i := 3) dX3_placeIn_128 rfl rfl ?_
        refine r_ireturn dX3_placeIn_129 rfl (by first | rfl | assumption | exact vp_nar_int _) ?_
        unfold q_place at hQ
        rw [← hn, hf] at hQ
        exact hQ
      · exact absurd (nI_le (by omega) (by omega)) h74
    | succ k ih =>
      intro i hi hf
      refine r_iload dX3_placeIn_66 rfl ?_
      refine r_aload_n (i := 0) dX3_placeIn_68 rfl rfl ?_
      refine r_iload_n (i := 1) dX3_placeIn_69 rfl rfl ?_
      refine r_iconst (v := nI 4) dX3_placeIn_70 (by decide) ?_
      refine r_callV (As := [_, _]) (mc' := 0) (ms' := 0) dX3_placeIn_71 k_X3_121 rfl (by first | assumption | (simp only [kd_sI, kd_sR, kd_sA, kd_sQ, kd_sL, kd_sD, ln_sI, ln_sR, ln_sA, ln_sQ, ln_sL, ln_sD, gI_sR, gI_sA, gI_sQ, gI_sL, gI_sD, gR_sI, gR_sA, gR_sQ, gR_sL, gR_sD, gA_sI, gA_sR, gA_sQ, gA_sL, gA_sD, gQ_sI, gQ_sR, gQ_sA, gQ_sL, gQ_sD, gL_sI, gL_sR, gL_sA, gL_sQ, gL_sD]; assumption) | simp [kd_sI, kd_sR, kd_sA, kd_sQ, kd_sL, kd_sD, ln_sI, ln_sR, ln_sA, ln_sQ, ln_sL, ln_sD, gI_sR, gI_sA, gI_sQ, gI_sL, gI_sD, gR_sI, gR_sA, gR_sQ, gR_sL, gR_sD, gA_sI, gA_sR, gA_sQ, gA_sL, gA_sD, gQ_sI, gQ_sR, gQ_sA, gQ_sL, gQ_sD, gL_sI, gL_sR, gL_sA, gL_sQ, gL_sD, kd_nO, kd_nA, *]) (T := TX3) (N := 27) rfl (by first | assumption | omega) (by first | assumption | omega) (by first | assumption | omega) (Nat.le_of_ble_eq_true rfl) ?_
      refine s_trayTold hM (by omega) ?_
      rw [show 41 + 5 * t + 4 = 45 + 5 * t by omega, hk1]
      refine r_icmp_ge (tgt := 128) dX3_placeIn_74 (by decide) (fun h74 => ?_) (fun h74 => ?_)
      · exact absurd h74 (nI_ge (by omega) (by omega))
      · refine r_aload_n (i := 0) dX3_placeIn_77 rfl rfl ?_
        refine r_iload_n (i := 1) dX3_placeIn_78 rfl rfl ?_
        refine r_iload dX3_placeIn_79 rfl ?_
        refine r_callV (As := [_, _]) (mc' := 0) (ms' := 0) dX3_placeIn_81 k_X3_139 rfl (by first | assumption | (simp only [kd_sI, kd_sR, kd_sA, kd_sQ, kd_sL, kd_sD, ln_sI, ln_sR, ln_sA, ln_sQ, ln_sL, ln_sD, gI_sR, gI_sA, gI_sQ, gI_sL, gI_sD, gR_sI, gR_sA, gR_sQ, gR_sL, gR_sD, gA_sI, gA_sR, gA_sQ, gA_sL, gA_sD, gQ_sI, gQ_sR, gQ_sA, gQ_sL, gQ_sD, gL_sI, gL_sR, gL_sA, gL_sQ, gL_sD]; assumption) | simp [kd_sI, kd_sR, kd_sA, kd_sQ, kd_sL, kd_sD, ln_sI, ln_sR, ln_sA, ln_sQ, ln_sL, ln_sD, gI_sR, gI_sA, gI_sQ, gI_sL, gI_sD, gR_sI, gR_sA, gR_sQ, gR_sL, gR_sD, gA_sI, gA_sR, gA_sQ, gA_sL, gA_sD, gQ_sI, gQ_sR, gQ_sA, gQ_sL, gQ_sD, gL_sI, gL_sR, gL_sA, gL_sQ, gL_sD, kd_nO, kd_nA, *]) (T := TX3) (N := 27) rfl (by first | assumption | omega) (by first | assumption | omega) (by first | assumption | omega) (Nat.le_of_ble_eq_true rfl) ?_
        refine s_classIn (by omega) hM hB ?_
        refine r_aload_n (i := 0) dX3_placeIn_84 rfl rfl ?_
        refine r_iload_n (i := 2) dX3_placeIn_85 rfl rfl ?_
        refine r_callV (As := [_]) (mc' := 0) (ms' := 0) dX3_placeIn_86 k_X3_130 rfl (by first | assumption | (simp only [kd_sI, kd_sR, kd_sA, kd_sQ, kd_sL, kd_sD, ln_sI, ln_sR, ln_sA, ln_sQ, ln_sL, ln_sD, gI_sR, gI_sA, gI_sQ, gI_sL, gI_sD, gR_sI, gR_sA, gR_sQ, gR_sL, gR_sD, gA_sI, gA_sR, gA_sQ, gA_sL, gA_sD, gQ_sI, gQ_sR, gQ_sA, gQ_sL, gQ_sD, gL_sI, gL_sR, gL_sA, gL_sQ, gL_sD]; assumption) | simp [kd_sI, kd_sR, kd_sA, kd_sQ, kd_sL, kd_sD, ln_sI, ln_sR, ln_sA, ln_sQ, ln_sL, ln_sD, gI_sR, gI_sA, gI_sQ, gI_sL, gI_sD, gR_sI, gR_sA, gR_sQ, gR_sL, gR_sD, gA_sI, gA_sR, gA_sQ, gA_sL, gA_sD, gQ_sI, gQ_sR, gQ_sA, gQ_sL, gQ_sD, gL_sI, gL_sR, gL_sA, gL_sQ, gL_sD, kd_nO, kd_nA, *]) (T := TX3) (N := 27) rfl (by first | assumption | omega) (by first | assumption | omega) (by first | assumption | omega) (Nat.le_of_ble_eq_true rfl) ?_
        refine s_classOf hM (by omega) ?_
        refine r_icmp_ne (tgt := 122) dX3_placeIn_89 (by decide) (fun h89 => ?_) (fun h89 => ?_)
        · refine r_iinc dX3_placeIn_122 rfl (by first | exact nI_1 _ | rfl) (by simp only [lset]; rfl) ?_
          refine r_goto (tgt := 66) dX3_placeIn_125 (by decide) ?_
          refine ih (i + 1) (by omega) ?_
          rw [hf, find9, if_neg (by simp only [Bool.and_eq_true, beq_iff_eq]; exact fun q => h89 q.1)]
        · refine r_aload_n (i := 0) dX3_placeIn_92 rfl rfl ?_
          refine r_iload_n (i := 1) dX3_placeIn_93 rfl rfl ?_
          refine r_iload dX3_placeIn_94 rfl ?_
          refine r_callV (As := [_, _]) (mc' := 0) (ms' := 0) dX3_placeIn_96 k_X3_133 rfl (by first | assumption | (simp only [kd_sI, kd_sR, kd_sA, kd_sQ, kd_sL, kd_sD, ln_sI, ln_sR, ln_sA, ln_sQ, ln_sL, ln_sD, gI_sR, gI_sA, gI_sQ, gI_sL, gI_sD, gR_sI, gR_sA, gR_sQ, gR_sL, gR_sD, gA_sI, gA_sR, gA_sQ, gA_sL, gA_sD, gQ_sI, gQ_sR, gQ_sA, gQ_sL, gQ_sD, gL_sI, gL_sR, gL_sA, gL_sQ, gL_sD]; assumption) | simp [kd_sI, kd_sR, kd_sA, kd_sQ, kd_sL, kd_sD, ln_sI, ln_sR, ln_sA, ln_sQ, ln_sL, ln_sD, gI_sR, gI_sA, gI_sQ, gI_sL, gI_sD, gR_sI, gR_sA, gR_sQ, gR_sL, gR_sD, gA_sI, gA_sR, gA_sQ, gA_sL, gA_sD, gQ_sI, gQ_sR, gQ_sA, gQ_sL, gQ_sD, gL_sI, gL_sR, gL_sA, gL_sQ, gL_sD, kd_nO, kd_nA, *]) (T := TX3) (N := 27) rfl (by first | assumption | omega) (by first | assumption | omega) (by first | assumption | omega) (Nat.le_of_ble_eq_true rfl) ?_
          refine s_areaIn (by omega) hM hB ?_
          refine r_aload_n (i := 0) dX3_placeIn_99 rfl rfl ?_
          refine r_iload_n (i := 2) dX3_placeIn_100 rfl rfl ?_
          refine r_callV (As := [_]) (mc' := 0) (ms' := 0) dX3_placeIn_101 k_X3_127 rfl (by first | assumption | (simp only [kd_sI, kd_sR, kd_sA, kd_sQ, kd_sL, kd_sD, ln_sI, ln_sR, ln_sA, ln_sQ, ln_sL, ln_sD, gI_sR, gI_sA, gI_sQ, gI_sL, gI_sD, gR_sI, gR_sA, gR_sQ, gR_sL, gR_sD, gA_sI, gA_sR, gA_sQ, gA_sL, gA_sD, gQ_sI, gQ_sR, gQ_sA, gQ_sL, gQ_sD, gL_sI, gL_sR, gL_sA, gL_sQ, gL_sD]; assumption) | simp [kd_sI, kd_sR, kd_sA, kd_sQ, kd_sL, kd_sD, ln_sI, ln_sR, ln_sA, ln_sQ, ln_sL, ln_sD, gI_sR, gI_sA, gI_sQ, gI_sL, gI_sD, gR_sI, gR_sA, gR_sQ, gR_sL, gR_sD, gA_sI, gA_sR, gA_sQ, gA_sL, gA_sD, gQ_sI, gQ_sR, gQ_sA, gQ_sL, gQ_sD, gL_sI, gL_sR, gL_sA, gL_sQ, gL_sD, kd_nO, kd_nA, *]) (T := TX3) (N := 27) rfl (by first | assumption | omega) (by first | assumption | omega) (by first | assumption | omega) (Nat.le_of_ble_eq_true rfl) ?_
          refine s_areaOf hM (by omega) ?_
          refine r_iadd dX3_placeIn_104 ?_
          refine r_aload_n (i := 0) dX3_placeIn_105 rfl rfl ?_
          refine r_iload_n (i := 1) dX3_placeIn_106 rfl rfl ?_
          try simp only [nI_add, pk_mul, nI_1]
          refine r_callV (As := [_]) (mc' := 0) (ms' := 0) dX3_placeIn_107 k_X3_124 rfl (by first | assumption | (simp only [kd_sI, kd_sR, kd_sA, kd_sQ, kd_sL, kd_sD, ln_sI, ln_sR, ln_sA, ln_sQ, ln_sL, ln_sD, gI_sR, gI_sA, gI_sQ, gI_sL, gI_sD, gR_sI, gR_sA, gR_sQ, gR_sL, gR_sD, gA_sI, gA_sR, gA_sQ, gA_sL, gA_sD, gQ_sI, gQ_sR, gQ_sA, gQ_sL, gQ_sD, gL_sI, gL_sR, gL_sA, gL_sQ, gL_sD]; assumption) | simp [kd_sI, kd_sR, kd_sA, kd_sQ, kd_sL, kd_sD, ln_sI, ln_sR, ln_sA, ln_sQ, ln_sL, ln_sD, gI_sR, gI_sA, gI_sQ, gI_sL, gI_sD, gR_sI, gR_sA, gR_sQ, gR_sL, gR_sD, gA_sI, gA_sR, gA_sQ, gA_sL, gA_sD, gQ_sI, gQ_sR, gQ_sA, gQ_sL, gQ_sD, gL_sI, gL_sR, gL_sA, gL_sQ, gL_sD, kd_nO, kd_nA, *]) (T := TX3) (N := 27) rfl (by first | assumption | omega) (by first | assumption | omega) (by first | assumption | omega) (Nat.le_of_ble_eq_true rfl) ?_
          refine s_roomOf (by omega) hM hB ht ?_
          refine r_aload_n (i := 0) dX3_placeIn_110 rfl rfl ?_
          refine r_iload_n (i := 1) dX3_placeIn_111 rfl rfl ?_
          refine r_callV (As := [_]) (mc' := 0) (ms' := 0) dX3_placeIn_112 k_X3_136 rfl (by first | assumption | (simp only [kd_sI, kd_sR, kd_sA, kd_sQ, kd_sL, kd_sD, ln_sI, ln_sR, ln_sA, ln_sQ, ln_sL, ln_sD, gI_sR, gI_sA, gI_sQ, gI_sL, gI_sD, gR_sI, gR_sA, gR_sQ, gR_sL, gR_sD, gA_sI, gA_sR, gA_sQ, gA_sL, gA_sD, gQ_sI, gQ_sR, gQ_sA, gQ_sL, gQ_sD, gL_sI, gL_sR, gL_sA, gL_sQ, gL_sD]; assumption) | simp [kd_sI, kd_sR, kd_sA, kd_sQ, kd_sL, kd_sD, ln_sI, ln_sR, ln_sA, ln_sQ, ln_sL, ln_sD, gI_sR, gI_sA, gI_sQ, gI_sL, gI_sD, gR_sI, gR_sA, gR_sQ, gR_sL, gR_sD, gA_sI, gA_sR, gA_sQ, gA_sL, gA_sD, gQ_sI, gQ_sR, gQ_sA, gQ_sL, gQ_sD, gL_sI, gL_sR, gL_sA, gL_sQ, gL_sD, kd_nO, kd_nA, *]) (T := TX3) (N := 27) rfl (by first | assumption | omega) (by first | assumption | omega) (by first | assumption | omega) (Nat.le_of_ble_eq_true rfl) ?_
          refine s_keptOf (by omega) hM hB ht ?_
          refine r_isub dX3_placeIn_115 ?_
          refine r_icmp_gt (tgt := 122) dX3_placeIn_116 (by decide) (fun h116 => ?_) (fun h116 => ?_)
          · have hfit : q_fit (gA H 1068 (ma 68)) t ty i = false := by
              unfold q_fit
              rw [decide_eq_false_iff_not]
              exact Int32.not_le.mpr h116
            refine r_iinc dX3_placeIn_122 rfl (by first | exact nI_1 _ | rfl) (by simp only [lset]; rfl) ?_
            refine r_goto (tgt := 66) dX3_placeIn_125 (by decide) ?_
            refine ih (i + 1) (by omega) ?_
            rw [hf, find9, if_neg (by rw [hfit]; simp)]
          · have hfit : q_fit (gA H 1068 (ma 68)) t ty i = true := by
              unfold q_fit
              rw [decide_eq_true_iff]
              exact Int32.not_lt.mp h116
            refine r_iload dX3_placeIn_119 rfl ?_
            refine r_ireturn dX3_placeIn_121 rfl (by first | rfl | assumption | exact vp_nar_int _) ?_
            unfold q_place at hQ
            rw [← hn, hf, find9, if_pos (by rw [hfit]; simpa using h89)] at hQ
            exact hQ
  have loop1 : ∀ (i : Nat), i ≤ n → AW mX3_placeIn G d Qr Qx 0 0 H 12 [some (vR (some m)), some (vI (nI t)), some (vI (nI ty)), some (vI (oI (find9 (fun k => q_fit (gA H 1068 (ma 68)) t ty k && decide (q_class (gA H 1068 (ma 68)) (nI t) (nI k) < 0)) i (n - i)))), some (vI (nI i - nI 1))] [] := by
    intro i
    induction i with
    | zero =>
      intro hi
      refine r_iload dX3_placeIn_12 rfl ?_
      refine r_if_lt (tgt := 63) dX3_placeIn_14 (by decide) (fun h14 => ?_) (fun h14 => ?_)
      · refine r_iconst (v := nI 0) dX3_placeIn_63 (by decide) ?_
        refine r_istore dX3_placeIn_64 (Nat.le_of_ble_eq_true rfl) (by simp only [lset]; rfl) ?_
        exact loop2 n 0 (by omega) rfl
      · exact absurd (by decide) h14
    | succ i ih =>
      intro hi
      have e1 : nI (i + 1) - nI 1 = nI i := by rw [pk_sub (by omega), Nat.add_sub_cancel]
      have nx := ih (by omega)
      have hni : n - i = (n - (i + 1)) + 1 := by omega
      rw [hni, find9] at nx
      refine r_iload dX3_placeIn_12 rfl ?_
      have e2 := dec_m1 (i := i + 1) (by omega)
      rw [Nat.add_sub_cancel] at e2
      rw [e1] at e2 ⊢
      refine r_if_lt (tgt := 63) dX3_placeIn_14 (by decide) (fun h14 => ?_) (fun h14 => ?_)
      · exact absurd h14 (nI_lt0 (by omega))
      · refine r_aload_n (i := 0) dX3_placeIn_17 rfl rfl ?_
        refine r_iload_n (i := 1) dX3_placeIn_18 rfl rfl ?_
        refine r_iload dX3_placeIn_19 rfl ?_
        refine r_callV (As := [_, _]) (mc' := 0) (ms' := 0) dX3_placeIn_21 k_X3_133 rfl (by first | assumption | (simp only [kd_sI, kd_sR, kd_sA, kd_sQ, kd_sL, kd_sD, ln_sI, ln_sR, ln_sA, ln_sQ, ln_sL, ln_sD, gI_sR, gI_sA, gI_sQ, gI_sL, gI_sD, gR_sI, gR_sA, gR_sQ, gR_sL, gR_sD, gA_sI, gA_sR, gA_sQ, gA_sL, gA_sD, gQ_sI, gQ_sR, gQ_sA, gQ_sL, gQ_sD, gL_sI, gL_sR, gL_sA, gL_sQ, gL_sD]; assumption) | simp [kd_sI, kd_sR, kd_sA, kd_sQ, kd_sL, kd_sD, ln_sI, ln_sR, ln_sA, ln_sQ, ln_sL, ln_sD, gI_sR, gI_sA, gI_sQ, gI_sL, gI_sD, gR_sI, gR_sA, gR_sQ, gR_sL, gR_sD, gA_sI, gA_sR, gA_sQ, gA_sL, gA_sD, gQ_sI, gQ_sR, gQ_sA, gQ_sL, gQ_sD, gL_sI, gL_sR, gL_sA, gL_sQ, gL_sD, kd_nO, kd_nA, *]) (T := TX3) (N := 27) rfl (by first | assumption | omega) (by first | assumption | omega) (by first | assumption | omega) (Nat.le_of_ble_eq_true rfl) ?_
        refine s_areaIn (by omega) hM hB ?_
        refine r_aload_n (i := 0) dX3_placeIn_24 rfl rfl ?_
        refine r_iload_n (i := 2) dX3_placeIn_25 rfl rfl ?_
        refine r_callV (As := [_]) (mc' := 0) (ms' := 0) dX3_placeIn_26 k_X3_127 rfl (by first | assumption | (simp only [kd_sI, kd_sR, kd_sA, kd_sQ, kd_sL, kd_sD, ln_sI, ln_sR, ln_sA, ln_sQ, ln_sL, ln_sD, gI_sR, gI_sA, gI_sQ, gI_sL, gI_sD, gR_sI, gR_sA, gR_sQ, gR_sL, gR_sD, gA_sI, gA_sR, gA_sQ, gA_sL, gA_sD, gQ_sI, gQ_sR, gQ_sA, gQ_sL, gQ_sD, gL_sI, gL_sR, gL_sA, gL_sQ, gL_sD]; assumption) | simp [kd_sI, kd_sR, kd_sA, kd_sQ, kd_sL, kd_sD, ln_sI, ln_sR, ln_sA, ln_sQ, ln_sL, ln_sD, gI_sR, gI_sA, gI_sQ, gI_sL, gI_sD, gR_sI, gR_sA, gR_sQ, gR_sL, gR_sD, gA_sI, gA_sR, gA_sQ, gA_sL, gA_sD, gQ_sI, gQ_sR, gQ_sA, gQ_sL, gQ_sD, gL_sI, gL_sR, gL_sA, gL_sQ, gL_sD, kd_nO, kd_nA, *]) (T := TX3) (N := 27) rfl (by first | assumption | omega) (by first | assumption | omega) (by first | assumption | omega) (Nat.le_of_ble_eq_true rfl) ?_
        refine s_areaOf hM (by omega) ?_
        refine r_iadd dX3_placeIn_29 ?_
        refine r_aload_n (i := 0) dX3_placeIn_30 rfl rfl ?_
        refine r_iload_n (i := 1) dX3_placeIn_31 rfl rfl ?_
        try simp only [nI_add, pk_mul, nI_1]
        refine r_callV (As := [_]) (mc' := 0) (ms' := 0) dX3_placeIn_32 k_X3_124 rfl (by first | assumption | (simp only [kd_sI, kd_sR, kd_sA, kd_sQ, kd_sL, kd_sD, ln_sI, ln_sR, ln_sA, ln_sQ, ln_sL, ln_sD, gI_sR, gI_sA, gI_sQ, gI_sL, gI_sD, gR_sI, gR_sA, gR_sQ, gR_sL, gR_sD, gA_sI, gA_sR, gA_sQ, gA_sL, gA_sD, gQ_sI, gQ_sR, gQ_sA, gQ_sL, gQ_sD, gL_sI, gL_sR, gL_sA, gL_sQ, gL_sD]; assumption) | simp [kd_sI, kd_sR, kd_sA, kd_sQ, kd_sL, kd_sD, ln_sI, ln_sR, ln_sA, ln_sQ, ln_sL, ln_sD, gI_sR, gI_sA, gI_sQ, gI_sL, gI_sD, gR_sI, gR_sA, gR_sQ, gR_sL, gR_sD, gA_sI, gA_sR, gA_sQ, gA_sL, gA_sD, gQ_sI, gQ_sR, gQ_sA, gQ_sL, gQ_sD, gL_sI, gL_sR, gL_sA, gL_sQ, gL_sD, kd_nO, kd_nA, *]) (T := TX3) (N := 27) rfl (by first | assumption | omega) (by first | assumption | omega) (by first | assumption | omega) (Nat.le_of_ble_eq_true rfl) ?_
        refine s_roomOf (by omega) hM hB ht ?_
        refine r_aload_n (i := 0) dX3_placeIn_35 rfl rfl ?_
        refine r_iload_n (i := 1) dX3_placeIn_36 rfl rfl ?_
        refine r_callV (As := [_]) (mc' := 0) (ms' := 0) dX3_placeIn_37 k_X3_136 rfl (by first | assumption | (simp only [kd_sI, kd_sR, kd_sA, kd_sQ, kd_sL, kd_sD, ln_sI, ln_sR, ln_sA, ln_sQ, ln_sL, ln_sD, gI_sR, gI_sA, gI_sQ, gI_sL, gI_sD, gR_sI, gR_sA, gR_sQ, gR_sL, gR_sD, gA_sI, gA_sR, gA_sQ, gA_sL, gA_sD, gQ_sI, gQ_sR, gQ_sA, gQ_sL, gQ_sD, gL_sI, gL_sR, gL_sA, gL_sQ, gL_sD]; assumption) | simp [kd_sI, kd_sR, kd_sA, kd_sQ, kd_sL, kd_sD, ln_sI, ln_sR, ln_sA, ln_sQ, ln_sL, ln_sD, gI_sR, gI_sA, gI_sQ, gI_sL, gI_sD, gR_sI, gR_sA, gR_sQ, gR_sL, gR_sD, gA_sI, gA_sR, gA_sQ, gA_sL, gA_sD, gQ_sI, gQ_sR, gQ_sA, gQ_sL, gQ_sD, gL_sI, gL_sR, gL_sA, gL_sQ, gL_sD, kd_nO, kd_nA, *]) (T := TX3) (N := 27) rfl (by first | assumption | omega) (by first | assumption | omega) (by first | assumption | omega) (Nat.le_of_ble_eq_true rfl) ?_
        refine s_keptOf (by omega) hM hB ht ?_
        refine r_isub dX3_placeIn_40 ?_
        refine r_icmp_gt (tgt := 57) dX3_placeIn_41 (by decide) (fun h41 => ?_) (fun h41 => ?_)
        · have hfit : q_fit (gA H 1068 (ma 68)) t ty i = false := by
            unfold q_fit
            rw [decide_eq_false_iff_not]
            exact Int32.not_le.mpr h41
          rw [if_neg (by rw [hfit]; simp)] at nx
          refine r_iinc dX3_placeIn_57 rfl (e2) (by simp only [lset]; rfl) ?_
          refine r_goto (tgt := 12) dX3_placeIn_60 (by decide) ?_
          exact nx
        · have hfit : q_fit (gA H 1068 (ma 68)) t ty i = true := by
            unfold q_fit
            rw [decide_eq_true_iff]
            exact Int32.not_lt.mp h41
          refine r_aload_n (i := 0) dX3_placeIn_44 rfl rfl ?_
          refine r_iload_n (i := 1) dX3_placeIn_45 rfl rfl ?_
          refine r_iload dX3_placeIn_46 rfl ?_
          refine r_callV (As := [_, _]) (mc' := 0) (ms' := 0) dX3_placeIn_48 k_X3_139 rfl (by first | assumption | (simp only [kd_sI, kd_sR, kd_sA, kd_sQ, kd_sL, kd_sD, ln_sI, ln_sR, ln_sA, ln_sQ, ln_sL, ln_sD, gI_sR, gI_sA, gI_sQ, gI_sL, gI_sD, gR_sI, gR_sA, gR_sQ, gR_sL, gR_sD, gA_sI, gA_sR, gA_sQ, gA_sL, gA_sD, gQ_sI, gQ_sR, gQ_sA, gQ_sL, gQ_sD, gL_sI, gL_sR, gL_sA, gL_sQ, gL_sD]; assumption) | simp [kd_sI, kd_sR, kd_sA, kd_sQ, kd_sL, kd_sD, ln_sI, ln_sR, ln_sA, ln_sQ, ln_sL, ln_sD, gI_sR, gI_sA, gI_sQ, gI_sL, gI_sD, gR_sI, gR_sA, gR_sQ, gR_sL, gR_sD, gA_sI, gA_sR, gA_sQ, gA_sL, gA_sD, gQ_sI, gQ_sR, gQ_sA, gQ_sL, gQ_sD, gL_sI, gL_sR, gL_sA, gL_sQ, gL_sD, kd_nO, kd_nA, *]) (T := TX3) (N := 27) rfl (by first | assumption | omega) (by first | assumption | omega) (by first | assumption | omega) (Nat.le_of_ble_eq_true rfl) ?_
          refine s_classIn (by omega) hM hB ?_
          refine r_if_ge (tgt := 57) dX3_placeIn_51 (by decide) (fun h51 => ?_) (fun h51 => ?_)
          · rw [if_neg (by rw [hfit]; simpa using h51)] at nx
            refine r_iinc dX3_placeIn_57 rfl (e2) (by simp only [lset]; rfl) ?_
            refine r_goto (tgt := 12) dX3_placeIn_60 (by decide) ?_
            exact nx
          · rw [if_pos (by rw [hfit]; simpa using h51)] at nx
            refine r_iload dX3_placeIn_54 rfl ?_
            refine r_istore_n (i := 3) dX3_placeIn_56 rfl (Nat.le_of_ble_eq_true rfl) (by simp only [lset]; rfl) ?_
            refine r_iinc dX3_placeIn_57 rfl (e2) (by simp only [lset]; rfl) ?_
            refine r_goto (tgt := 12) dX3_placeIn_60 (by decide) ?_
            exact nx
  have h1 := loop1 n (Nat.le_refl _)
  rw [Nat.sub_self] at h1
  exact h1
end Mo3
