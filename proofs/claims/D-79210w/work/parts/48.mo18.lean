set_option maxRecDepth 100000
/-! the fewest drums -/
def qn (g : Nat → Int32) (c : Nat) : Nat := (q_need g c).toNatClampNeg
def GN (g : Nat → Int32) : Prop := ∀ c, c < nat g 101 → q_need g c = nI (qn g c) ∧ qn g c < 1000
def needsF (g : Nat → Int32) (y : Int32) : Nat → List Nat
  | 0 => []
  | n + 1 => needsF g y n ++ (if g (102 + 21 * n) = y ∧ g (105 + 21 * n) = nI 1 then [qn g n] else [])
theorem needsF_len {g : Nat → Int32} {y : Int32} : ∀ n, (needsF g y n).length ≤ n := by
  intro n
  induction n with
  | zero => exact Nat.le_refl _
  | succ n ih =>
    unfold needsF
    rw [List.length_append]
    by_cases h : g (102 + 21 * n) = y ∧ g (105 + 21 * n) = nI 1
    · rw [if_pos h]; simp; omega
    · rw [if_neg h]; simp; omega
theorem needsF_lt {g : Nat → Int32} {y : Int32} (hN : GN g) : ∀ n, n ≤ nat g 101 → ∀ x, x ∈ needsF g y n → x < 1000 := by
  intro n
  induction n with
  | zero => intro _ x h; cases h
  | succ n ih =>
    intro hn x h
    unfold needsF at h
    rw [List.mem_append] at h
    rcases h with h | h
    · exact ih (by omega) x h
    · by_cases h1 : g (102 + 21 * n) = y ∧ g (105 + 21 * n) = nI 1
      · rw [if_pos h1, List.mem_singleton] at h
        rw [h]
        exact (hN n (by omega)).2
      · rw [if_neg h1] at h; cases h
def behF (rs : List Nat) (v len : Nat) : Nat :=
  if v / 10000 < rs.length then (if v % 10000 + len ≤ rs.getD (v / 10000) 0 then 10000 * (v / 10000) + (v % 10000 + len) else if v / 10000 + 1 < rs.length ∧ len ≤ rs.getD (v / 10000 + 1) 0 then 10000 * (v / 10000 + 1) + len else 10000 * rs.length) else 10000 * rs.length
def minK (ns rs : List Nat) (T : Nat → Nat) (s : Nat) : Nat → Nat
  | 0 => 10000 * rs.length
  | k + 1 => if s.testBit k = true then min (minK ns rs T s k) (behF rs (T (s - 2 ^ k)) (ns.getD k 0)) else minK ns rs T s k
def leastT (ns rs : List Nat) : Nat → Nat → Nat
  | 0 => fun _ => 0
  | s + 1 => fun i => if i = s + 1 then minK ns rs (leastT ns rs s) (s + 1) ns.length else leastT ns rs s i
theorem minK_le {ns rs : List Nat} {T : Nat → Nat} {s : Nat} : ∀ k, minK ns rs T s k ≤ 10000 * rs.length := by
  intro k
  induction k with
  | zero => exact Nat.le_refl _
  | succ k ih =>
    unfold minK
    split
    · exact Nat.le_trans (Nat.min_le_left _ _) ih
    · exact ih
def p_few (g : Nat → Int32) (y : Int32) : Nat × Int32 :=
  if isY g y then
    (if needsF g y (nat g 101) = [] then (0, nI 0)
     else if restsF g y (nat g 354) = [] then (2, nI 0)
     else if leastT (needsF g y (nat g 101)) (restsF g y (nat g 354)) (2 ^ (needsF g y (nat g 101)).length - 1) (2 ^ (needsF g y (nat g 101)).length - 1) < 10000 * (restsF g y (nat g 354)).length then (0, nI (leastT (needsF g y (nat g 101)) (restsF g y (nat g 354)) (2 ^ (needsF g y (nat g 101)).length - 1) (2 ^ (needsF g y (nat g 101)).length - 1) / 10000 + 1)) else (2, nI 0))
  else (1, nI 0)
theorem nx_xor (a b : Nat) : nI a ^^^ nI b = nI (a ^^^ b) := by
  apply Int32.toBitVec_inj.1
  show BitVec.ofNat 32 a ^^^ BitVec.ofNat 32 b = BitVec.ofNat 32 (a ^^^ b)
  apply BitVec.eq_of_getLsbD_eq
  intro i hi
  simp [hi]
theorem xr_all : ∀ h, h < 64 → ∀ l, l < 64 → ∀ k, k < 12 → ((64 * h + l) ^^^ 2 ^ k = if (64 * h + l).testBit k = true then 64 * h + l - 2 ^ k else 64 * h + l + 2 ^ k) ∧ ((64 * h + l).testBit k = true → 2 ^ k ≤ 64 * h + l) ∧ 0 < 2 ^ k ∧ 2 ^ k ≤ 2048 := by decide +kernel
theorem xr {s k : Nat} (hs : s < 4096) (hk : k < 12) : (s ^^^ 2 ^ k = if s.testBit k = true then s - 2 ^ k else s + 2 ^ k) ∧ (s.testBit k = true → 2 ^ k ≤ s) ∧ 0 < 2 ^ k ∧ 2 ^ k ≤ 2048 := by
  have := xr_all (s / 64) (by omega) (s % 64) (Nat.mod_lt _ (by decide)) k hk
  rw [show 64 * (s / 64) + s % 64 = s by omega] at this
  exact this
def EncD (D U : Nat → Int32) (n i v : Nat) : Prop := (v < 10000 * n → D i = nI (v / 10000 + 1) ∧ U i = nI (v % 10000)) ∧ (¬ v < 10000 * n → D i = nI 99)
section Mo18
variable {G : Gl} {d m : Nat} {ma : Nat → Nat} {Qr : Option AV → AH → Prop} {Qx : String → Nat → AH → Prop} {H : AH}
theorem s_fewestDrums {y : Int32} (hd : 5 ≤ d) (hM : MO H m ma) (hB : GB (gA H 1068 (ma 68))) (hD : GD (gA H 1068 (ma 68))) (hN : GN (gA H 1068 (ma 68)))
    (hQ : ∀ H', MU m ma [77, 84, 85, 86, 87] H H' → gI H' 77 m = nI (p_few (gA H 1068 (ma 68)) y).1 → Qr (some (vI (p_few (gA H 1068 (ma 68)) y).2)) H') : AMet G d 0 0 yX3_fewestDrums wX3_fewestDrums H [vR (some m), vI y] Qr Qx := by
  have e0 := hM.1
  obtain ⟨g, hg⟩ := ex_val (gA H 1068 (ma 68))
  rw [← hg] at hQ hD hN
  have hB' : GB g := by rw [hg]; exact hB
  unfold p_few at hQ
  refine AMet.of (M := mX3_fewestDrums) (maxL := 10) rfl rfl (Nat.le_of_ble_eq_true rfl) ?_
  show AW mX3_fewestDrums _ _ _ _ _ _ _ 0 [some (vR (some m)), some (vI y), none, none, none, none, none, none, none, none] []
  refine r_aload_n (i := 0) dX3_fewestDrums_0 rfl rfl ?_
  refine r_aload_n (i := 0) dX3_fewestDrums_1 rfl rfl ?_
  refine r_iload_n (i := 1) dX3_fewestDrums_2 rfl rfl ?_
  refine r_callV (As := [_]) (mc' := 0) (ms' := 0) dX3_fewestDrums_3 k_X3_118 rfl (by first | assumption | (simp only [kd_sI, kd_sR, kd_sA, kd_sQ, kd_sL, kd_sD, ln_sI, ln_sR, ln_sA, ln_sQ, ln_sL, ln_sD, gI_sR, gI_sA, gI_sQ, gI_sL, gI_sD, gR_sI, gR_sA, gR_sQ, gR_sL, gR_sD, gA_sI, gA_sR, gA_sQ, gA_sL, gA_sD, gQ_sI, gQ_sR, gQ_sA, gQ_sL, gQ_sD, gL_sI, gL_sR, gL_sA, gL_sQ, gL_sD]; assumption) | simp [kd_sI, kd_sR, kd_sA, kd_sQ, kd_sL, kd_sD, ln_sI, ln_sR, ln_sA, ln_sQ, ln_sL, ln_sD, gI_sR, gI_sA, gI_sQ, gI_sL, gI_sD, gR_sI, gR_sA, gR_sQ, gR_sL, gR_sD, gA_sI, gA_sR, gA_sQ, gA_sL, gA_sD, gQ_sI, gQ_sR, gQ_sA, gQ_sL, gQ_sD, gL_sI, gL_sR, gL_sA, gL_sQ, gL_sD, kd_nO, kd_nA, *]) (T := TX3) (N := 27) rfl (by first | assumption | omega) (by first | assumption | omega) (by first | assumption | omega) (Nat.le_of_ble_eq_true rfl) ?_
  refine s_isType (by omega) hM ?_
  rw [← hg]
  refine r_if_eq (tgt := 13) dX3_fewestDrums_6 (by decide) (fun h6 => ?_) (fun h6 => ?_)
  · rw [show isY g y = false from bI_eq0.mp h6] at hQ
    refine r_iconst (v := nI 1) dX3_fewestDrums_13 (by decide) ?_
    refine r_putI dX3_fewestDrums_14 fG_X3_66 (fun _ => by first | rfl | contradiction) (by first | assumption | (simp only [kd_sI, kd_sR, kd_sA, kd_sQ, kd_sL, kd_sD, ln_sI, ln_sR, ln_sA, ln_sQ, ln_sL, ln_sD, gI_sR, gI_sA, gI_sQ, gI_sL, gI_sD, gR_sI, gR_sA, gR_sQ, gR_sL, gR_sD, gA_sI, gA_sR, gA_sQ, gA_sL, gA_sD, gQ_sI, gQ_sR, gQ_sA, gQ_sL, gQ_sD, gL_sI, gL_sR, gL_sA, gL_sQ, gL_sD]; assumption) | simp [kd_sI, kd_sR, kd_sA, kd_sQ, kd_sL, kd_sD, ln_sI, ln_sR, ln_sA, ln_sQ, ln_sL, ln_sD, gI_sR, gI_sA, gI_sQ, gI_sL, gI_sD, gR_sI, gR_sA, gR_sQ, gR_sL, gR_sD, gA_sI, gA_sR, gA_sQ, gA_sL, gA_sD, gQ_sI, gQ_sR, gQ_sA, gQ_sL, gQ_sD, gL_sI, gL_sR, gL_sA, gL_sQ, gL_sD, kd_nO, kd_nA, *]) (by first | rfl | assumption) (by first | rfl | assumption) ?_
    refine r_aload_n (i := 0) dX3_fewestDrums_17 rfl rfl ?_
    refine r_getI dX3_fewestDrums_18 fR_X3_66 (by first | assumption | (simp only [kd_sI, kd_sR, kd_sA, kd_sQ, kd_sL, kd_sD, ln_sI, ln_sR, ln_sA, ln_sQ, ln_sL, ln_sD, gI_sR, gI_sA, gI_sQ, gI_sL, gI_sD, gR_sI, gR_sA, gR_sQ, gR_sL, gR_sD, gA_sI, gA_sR, gA_sQ, gA_sL, gA_sD, gQ_sI, gQ_sR, gQ_sA, gQ_sL, gQ_sD, gL_sI, gL_sR, gL_sA, gL_sQ, gL_sD]; assumption) | simp [kd_sI, kd_sR, kd_sA, kd_sQ, kd_sL, kd_sD, ln_sI, ln_sR, ln_sA, ln_sQ, ln_sL, ln_sD, gI_sR, gI_sA, gI_sQ, gI_sL, gI_sD, gR_sI, gR_sA, gR_sQ, gR_sL, gR_sD, gA_sI, gA_sR, gA_sQ, gA_sL, gA_sD, gQ_sI, gQ_sR, gQ_sA, gQ_sL, gQ_sD, gL_sI, gL_sR, gL_sA, gL_sQ, gL_sD, kd_nO, kd_nA, *]) (by first | assumption | exact gI_sIs | exact gR_sRs | with_reducible rfl | (simp only [kd_sI, kd_sR, kd_sA, kd_sQ, kd_sL, kd_sD, ln_sI, ln_sR, ln_sA, ln_sQ, ln_sL, ln_sD, gI_sR, gI_sA, gI_sQ, gI_sL, gI_sD, gR_sI, gR_sA, gR_sQ, gR_sL, gR_sD, gA_sI, gA_sR, gA_sQ, gA_sL, gA_sD, gQ_sI, gQ_sR, gQ_sA, gQ_sL, gQ_sD, gL_sI, gL_sR, gL_sA, gL_sQ, gL_sD]; first | done | assumption | with_reducible rfl) | rfl) ?_
    refine r_if_le (tgt := 26) dX3_fewestDrums_21 (by decide) (fun h21 => ?_) (fun h21 => ?_)
    · exact absurd h21 (by decide)
    · refine r_iconst (v := nI 0) dX3_fewestDrums_24 (by decide) ?_
      refine r_ireturn dX3_fewestDrums_25 rfl (by first | rfl | assumption | exact vp_nar_int _ | exact pk_nc _) ?_
      exact hQ _ (MU.rf.sI (by decide) (by decide) (by decide)) gI_sIs
  · rw [show isY g y = true from bI_ne0 h6, if_pos rfl] at hQ
    obtain ⟨hC1, hC2⟩ := hB'.2.2.1
    obtain ⟨C, hC⟩ := ex_val (nat g 101)
    have hc0 := hB'.2.2.2.2.2
    have hnlen := needsF_len (g := g) (y := y) (nat g 101)
    have hnlt := needsF_lt (y := y) hN (nat g 101) (Nat.le_refl _)
    have hrlen := restsF_len (g := g) (y := y) (nat g 354)
    have hrlt := restsF_lt (y := y) hD (nat g 354) (Nat.le_refl _)
    have hN2 := hB'.2.2.2.1.2
    obtain ⟨rs, hrs⟩ := ex_val (restsF g y (nat g 354))
    rw [← hrs] at hQ hrlen hrlt
    rw [← hC] at hC1 hC2 hQ hc0 hnlen hnlt
    obtain ⟨ns, hns⟩ := ex_val (needsF g y C)
    rw [← hns] at hQ hnlen hnlt
    have dp : ∀ (Hb : AH) (o3 o4 o5 o6 o7 o8 o9 : Option AV), MU m ma [77, 84, 85, 86, 87] H Hb → gI Hb 77 m = nI 0 → ArrR Hb 1084 (ma 84) ns → ArrR Hb 1085 (ma 85) rs → ns ≠ [] → rs ≠ [] → AW mX3_fewestDrums G d Qr Qx 0 0 Hb 103 [some (vR (some m)), some (vI y), some (vI (nI ns.length)), some (vI (nI rs.length)), o4, o5, o6, o7, o8, o9] [] := by
      intro Hb o3 o4 o5 o6 o7 o8 o9 hUb h77b hAn hAr hn0 hr0
      rw [if_neg hn0, if_neg hr0] at hQ
      obtain ⟨n, hn⟩ := ex_val ns.length
      obtain ⟨R, hR⟩ := ex_val rs.length
      have hnpos : 0 < n := by rw [hn]; exact List.length_pos_iff.mpr hn0
      have hRpos : 0 < R := by rw [hR]; exact List.length_pos_iff.mpr hr0
      rw [← hn, ← hR] at hQ
      rw [← hn, ← hR]
      rw [← hn] at hnlen
      rw [← hR] at hrlen
      have hMb := hM.mf hUb.1
      have e0b := hMb.1
      have h2n : 2 ^ n ≤ 4096 := Nat.le_trans (Nat.pow_le_pow_right (by decide) (show n ≤ 12 by omega)) (by decide)
      have h2n0 : 0 < 2 ^ n := Nat.two_pow_pos n
      have outer : ∀ (q j : Nat) (H1 : AH) (o5 o6 o7 o8 o9 : Option AV), j + 1 + q = 2 ^ n → MU m ma [86, 87] Hb H1 → (∀ i, i ≤ j → EncD (gA H1 1086 (ma 86)) (gA H1 1087 (ma 87)) R i (leastT ns rs j i)) → AW mX3_fewestDrums G d Qr Qx 0 0 H1 120 [some (vR (some m)), some (vI y), some (vI (nI n)), some (vI (nI R)), some (vI (nI (j + 1))), o5, o6, o7, o8, o9] [] := by
        intro q
        induction q with
        | zero =>
          intro j H1 o5 o6 o7 o8 o9 hj hU1 hE
          have hM1 := hMb.mf hU1.1
          have e01 := hM1.1
          obtain ⟨e86a_1, e86b_1, e86c_1⟩ : gR H1 86 m = some (ma 86) ∧ kd H1 (ma 86) = 1086 ∧ ln H1 (ma 86) = 4096 := hM1.2 86 (by decide)
          obtain ⟨e87a_1, e87b_1, e87c_1⟩ : gR H1 87 m = some (ma 87) ∧ kd H1 (ma 87) = 1087 ∧ ln H1 (ma 87) = 4096 := hM1.2 87 (by decide)
          have hEj := hE j (Nat.le_refl _)
          have hjn : 2 ^ n - 1 = j := by omega
          rw [hjn] at hQ
          have hU : MU m ma [77, 84, 85, 86, 87] H H1 := (hUb.tr hU1).sub (by decide)
          have h77 : gI H1 77 m = nI 0 := by rw [(hU1.2 77 (by decide)).1]; exact h77b
          have e1 : nI 1 <<< (nI n &&& 31) = nI (2 ^ n) := sh1 n (by omega)
          refine r_iload dX3_fewestDrums_120 rfl ?_
          refine r_iconst (v := nI 1) dX3_fewestDrums_122 (by decide) ?_
          refine r_iload_n (i := 2) dX3_fewestDrums_123 rfl rfl ?_
          refine r_ishl dX3_fewestDrums_124 ?_
          refine r_icmp_ge (tgt := 326) dX3_fewestDrums_125 (by decide) (fun h125 => ?_) (fun h125 => ?_)
          · refine r_aload_n (i := 0) dX3_fewestDrums_326 rfl rfl ?_
            refine r_getR dX3_fewestDrums_327 fR_X3_44 (by first | assumption | (simp only [kd_sI, kd_sR, kd_sA, kd_sQ, kd_sL, kd_sD, ln_sI, ln_sR, ln_sA, ln_sQ, ln_sL, ln_sD, gI_sR, gI_sA, gI_sQ, gI_sL, gI_sD, gR_sI, gR_sA, gR_sQ, gR_sL, gR_sD, gA_sI, gA_sR, gA_sQ, gA_sL, gA_sD, gQ_sI, gQ_sR, gQ_sA, gQ_sL, gQ_sD, gL_sI, gL_sR, gL_sA, gL_sQ, gL_sD]; assumption) | simp [kd_sI, kd_sR, kd_sA, kd_sQ, kd_sL, kd_sD, ln_sI, ln_sR, ln_sA, ln_sQ, ln_sL, ln_sD, gI_sR, gI_sA, gI_sQ, gI_sL, gI_sD, gR_sI, gR_sA, gR_sQ, gR_sL, gR_sD, gA_sI, gA_sR, gA_sQ, gA_sL, gA_sD, gQ_sI, gQ_sR, gQ_sA, gQ_sL, gQ_sD, gL_sI, gL_sR, gL_sA, gL_sQ, gL_sD, kd_nO, kd_nA, *]) (by first | assumption | exact gI_sIs | exact gR_sRs | with_reducible rfl | (simp only [kd_sI, kd_sR, kd_sA, kd_sQ, kd_sL, kd_sD, ln_sI, ln_sR, ln_sA, ln_sQ, ln_sL, ln_sD, gI_sR, gI_sA, gI_sQ, gI_sL, gI_sD, gR_sI, gR_sA, gR_sQ, gR_sL, gR_sD, gA_sI, gA_sR, gA_sQ, gA_sL, gA_sD, gQ_sI, gQ_sR, gQ_sA, gQ_sL, gQ_sD, gL_sI, gL_sR, gL_sA, gL_sQ, gL_sD]; first | done | assumption | with_reducible rfl) | rfl) ?_
            refine r_iconst (v := nI 1) dX3_fewestDrums_330 (by decide) ?_
            refine r_iload_n (i := 2) dX3_fewestDrums_331 rfl rfl ?_
            refine r_ishl dX3_fewestDrums_332 ?_
            refine r_iconst (v := nI 1) dX3_fewestDrums_333 (by decide) ?_
            refine r_isub dX3_fewestDrums_334 ?_
            rw [e1, pk_sub (by omega), hjn]
            by_cases hv : leastT ns rs j j < 10000 * R
            · rw [if_pos hv] at hQ
              obtain ⟨a1, -⟩ := hEj.1 hv
              refine r_iald dX3_fewestDrums_335 (by first | assumption | (simp only [kd_sI, kd_sR, kd_sA, kd_sQ, kd_sL, kd_sD, ln_sI, ln_sR, ln_sA, ln_sQ, ln_sL, ln_sD, gI_sR, gI_sA, gI_sQ, gI_sL, gI_sD, gR_sI, gR_sA, gR_sQ, gR_sL, gR_sD, gA_sI, gA_sR, gA_sQ, gA_sL, gA_sD, gQ_sI, gQ_sR, gQ_sA, gQ_sL, gQ_sD, gL_sI, gL_sR, gL_sA, gL_sQ, gL_sD]; assumption) | simp [kd_sI, kd_sR, kd_sA, kd_sQ, kd_sL, kd_sD, ln_sI, ln_sR, ln_sA, ln_sQ, ln_sL, ln_sD, gI_sR, gI_sA, gI_sQ, gI_sL, gI_sD, gR_sI, gR_sA, gR_sQ, gR_sL, gR_sD, gA_sI, gA_sR, gA_sQ, gA_sL, gA_sD, gQ_sI, gQ_sR, gQ_sA, gQ_sL, gQ_sD, gL_sI, gL_sR, gL_sA, gL_sQ, gL_sD, kd_nO, kd_nA, *]) (by first | decide | assumption) (by first | assumption | exact gI_sIs | exact gR_sRs | with_reducible rfl | (simp only [kd_sI, kd_sR, kd_sA, kd_sQ, kd_sL, kd_sD, ln_sI, ln_sR, ln_sA, ln_sQ, ln_sL, ln_sD, gI_sR, gI_sA, gI_sQ, gI_sL, gI_sD, gR_sI, gR_sA, gR_sQ, gR_sL, gR_sD, gA_sI, gA_sR, gA_sQ, gA_sL, gA_sD, gQ_sI, gQ_sR, gQ_sA, gQ_sL, gQ_sD, gL_sI, gL_sR, gL_sA, gL_sQ, gL_sD]; first | done | assumption | with_reducible rfl) | rfl) (by first | with_reducible rfl | assumption | (simp only [nI_add, pk_mul, nI_1]; with_reducible rfl)) (by first | assumption | omega) (by first | assumption | omega) (by first | assumption | exact gI_sIs | exact gR_sRs | with_reducible rfl | (simp only [kd_sI, kd_sR, kd_sA, kd_sQ, kd_sL, kd_sD, ln_sI, ln_sR, ln_sA, ln_sQ, ln_sL, ln_sD, gI_sR, gI_sA, gI_sQ, gI_sL, gI_sD, gR_sI, gR_sA, gR_sQ, gR_sL, gR_sD, gA_sI, gA_sR, gA_sQ, gA_sL, gA_sD, gQ_sI, gQ_sR, gQ_sA, gQ_sL, gQ_sD, gL_sI, gL_sR, gL_sA, gL_sQ, gL_sD]; first | done | assumption | with_reducible rfl) | rfl) ?_
              refine r_istore dX3_fewestDrums_336 (Nat.le_of_ble_eq_true rfl) (by simp only [lset]; rfl) ?_
              refine r_iload dX3_fewestDrums_338 rfl ?_
              refine r_iload_n (i := 3) dX3_fewestDrums_340 rfl rfl ?_
              refine r_icmp_le (tgt := 352) dX3_fewestDrums_341 (by decide) (fun h341 => ?_) (fun h341 => ?_)
              · refine r_iload dX3_fewestDrums_352 rfl ?_
                refine r_ireturn dX3_fewestDrums_354 rfl (by first | rfl | assumption | exact vp_nar_int _ | exact pk_nc _) ?_
                exact hQ H1 hU h77
              · exact absurd (nI_le (show leastT ns rs j j / 10000 + 1 ≤ R by omega) (by omega)) h341
            · rw [if_neg hv] at hQ
              have a1 := hEj.2 hv
              refine r_iald dX3_fewestDrums_335 (by first | assumption | (simp only [kd_sI, kd_sR, kd_sA, kd_sQ, kd_sL, kd_sD, ln_sI, ln_sR, ln_sA, ln_sQ, ln_sL, ln_sD, gI_sR, gI_sA, gI_sQ, gI_sL, gI_sD, gR_sI, gR_sA, gR_sQ, gR_sL, gR_sD, gA_sI, gA_sR, gA_sQ, gA_sL, gA_sD, gQ_sI, gQ_sR, gQ_sA, gQ_sL, gQ_sD, gL_sI, gL_sR, gL_sA, gL_sQ, gL_sD]; assumption) | simp [kd_sI, kd_sR, kd_sA, kd_sQ, kd_sL, kd_sD, ln_sI, ln_sR, ln_sA, ln_sQ, ln_sL, ln_sD, gI_sR, gI_sA, gI_sQ, gI_sL, gI_sD, gR_sI, gR_sA, gR_sQ, gR_sL, gR_sD, gA_sI, gA_sR, gA_sQ, gA_sL, gA_sD, gQ_sI, gQ_sR, gQ_sA, gQ_sL, gQ_sD, gL_sI, gL_sR, gL_sA, gL_sQ, gL_sD, kd_nO, kd_nA, *]) (by first | decide | assumption) (by first | assumption | exact gI_sIs | exact gR_sRs | with_reducible rfl | (simp only [kd_sI, kd_sR, kd_sA, kd_sQ, kd_sL, kd_sD, ln_sI, ln_sR, ln_sA, ln_sQ, ln_sL, ln_sD, gI_sR, gI_sA, gI_sQ, gI_sL, gI_sD, gR_sI, gR_sA, gR_sQ, gR_sL, gR_sD, gA_sI, gA_sR, gA_sQ, gA_sL, gA_sD, gQ_sI, gQ_sR, gQ_sA, gQ_sL, gQ_sD, gL_sI, gL_sR, gL_sA, gL_sQ, gL_sD]; first | done | assumption | with_reducible rfl) | rfl) (by first | with_reducible rfl | assumption | (simp only [nI_add, pk_mul, nI_1]; with_reducible rfl)) (by first | assumption | omega) (by first | assumption | omega) (by first | assumption | exact gI_sIs | exact gR_sRs | with_reducible rfl | (simp only [kd_sI, kd_sR, kd_sA, kd_sQ, kd_sL, kd_sD, ln_sI, ln_sR, ln_sA, ln_sQ, ln_sL, ln_sD, gI_sR, gI_sA, gI_sQ, gI_sL, gI_sD, gR_sI, gR_sA, gR_sQ, gR_sL, gR_sD, gA_sI, gA_sR, gA_sQ, gA_sL, gA_sD, gQ_sI, gQ_sR, gQ_sA, gQ_sL, gQ_sD, gL_sI, gL_sR, gL_sA, gL_sQ, gL_sD]; first | done | assumption | with_reducible rfl) | rfl) ?_
              refine r_istore dX3_fewestDrums_336 (Nat.le_of_ble_eq_true rfl) (by simp only [lset]; rfl) ?_
              refine r_iload dX3_fewestDrums_338 rfl ?_
              refine r_iload_n (i := 3) dX3_fewestDrums_340 rfl rfl ?_
              refine r_icmp_le (tgt := 352) dX3_fewestDrums_341 (by decide) (fun h341 => ?_) (fun h341 => ?_)
              · exact absurd h341 (nI_ge (show R < 99 by omega) (by omega))
              · refine r_aload_n (i := 0) dX3_fewestDrums_344 rfl rfl ?_
                refine r_iconst (v := nI 2) dX3_fewestDrums_345 (by decide) ?_
                refine r_callV (As := [_]) (mc' := 0) (ms' := 0) dX3_fewestDrums_346 k_X3_175 rfl (by first | assumption | (simp only [kd_sI, kd_sR, kd_sA, kd_sQ, kd_sL, kd_sD, ln_sI, ln_sR, ln_sA, ln_sQ, ln_sL, ln_sD, gI_sR, gI_sA, gI_sQ, gI_sL, gI_sD, gR_sI, gR_sA, gR_sQ, gR_sL, gR_sD, gA_sI, gA_sR, gA_sQ, gA_sL, gA_sD, gQ_sI, gQ_sR, gQ_sA, gQ_sL, gQ_sD, gL_sI, gL_sR, gL_sA, gL_sQ, gL_sD]; assumption) | simp [kd_sI, kd_sR, kd_sA, kd_sQ, kd_sL, kd_sD, ln_sI, ln_sR, ln_sA, ln_sQ, ln_sL, ln_sD, gI_sR, gI_sA, gI_sQ, gI_sL, gI_sD, gR_sI, gR_sA, gR_sQ, gR_sL, gR_sD, gA_sI, gA_sR, gA_sQ, gA_sL, gA_sD, gQ_sI, gQ_sR, gQ_sA, gQ_sL, gQ_sD, gL_sI, gL_sR, gL_sA, gL_sQ, gL_sD, kd_nO, kd_nA, *]) (T := TX3) (N := 27) rfl (by first | assumption | omega) (by first | assumption | omega) (by first | assumption | omega) (Nat.le_of_ble_eq_true rfl) ?_
                refine s_fails hM1 ?_
                refine r_goto (tgt := 354) dX3_fewestDrums_349 (by decide) ?_
                refine r_ireturn dX3_fewestDrums_354 rfl (by first | rfl | assumption | exact vp_nar_int _ | exact pk_nc _) ?_
                exact hQ _ (hU.sI (by decide) (by decide) (by decide)) gI_sIs
          · exact absurd (by rw [e1]; exact nI_le (by omega) (by omega)) h125
        | succ q ih =>
          intro j H1 o5 o6 o7 o8 o9 hj hU1 hE
          have hM1 := hMb.mf hU1.1
          have e01 := hM1.1
          obtain ⟨e86a_1, e86b_1, e86c_1⟩ : gR H1 86 m = some (ma 86) ∧ kd H1 (ma 86) = 1086 ∧ ln H1 (ma 86) = 4096 := hM1.2 86 (by decide)
          obtain ⟨e87a_1, e87b_1, e87c_1⟩ : gR H1 87 m = some (ma 87) ∧ kd H1 (ma 87) = 1087 ∧ ln H1 (ma 87) = 4096 := hM1.2 87 (by decide)
          have e1 : nI 1 <<< (nI n &&& 31) = nI (2 ^ n) := sh1 n (by omega)
          refine r_iload dX3_fewestDrums_120 rfl ?_
          refine r_iconst (v := nI 1) dX3_fewestDrums_122 (by decide) ?_
          refine r_iload_n (i := 2) dX3_fewestDrums_123 rfl rfl ?_
          refine r_ishl dX3_fewestDrums_124 ?_
          refine r_icmp_ge (tgt := 326) dX3_fewestDrums_125 (by decide) (fun h125 => ?_) (fun h125 => ?_)
          · exact absurd h125 (by rw [e1]; exact nI_ge (by omega) (by omega))
          · refine r_aload_n (i := 0) dX3_fewestDrums_128 rfl rfl ?_
            refine r_getR dX3_fewestDrums_129 fR_X3_44 (by first | assumption | (simp only [kd_sI, kd_sR, kd_sA, kd_sQ, kd_sL, kd_sD, ln_sI, ln_sR, ln_sA, ln_sQ, ln_sL, ln_sD, gI_sR, gI_sA, gI_sQ, gI_sL, gI_sD, gR_sI, gR_sA, gR_sQ, gR_sL, gR_sD, gA_sI, gA_sR, gA_sQ, gA_sL, gA_sD, gQ_sI, gQ_sR, gQ_sA, gQ_sL, gQ_sD, gL_sI, gL_sR, gL_sA, gL_sQ, gL_sD]; assumption) | simp [kd_sI, kd_sR, kd_sA, kd_sQ, kd_sL, kd_sD, ln_sI, ln_sR, ln_sA, ln_sQ, ln_sL, ln_sD, gI_sR, gI_sA, gI_sQ, gI_sL, gI_sD, gR_sI, gR_sA, gR_sQ, gR_sL, gR_sD, gA_sI, gA_sR, gA_sQ, gA_sL, gA_sD, gQ_sI, gQ_sR, gQ_sA, gQ_sL, gQ_sD, gL_sI, gL_sR, gL_sA, gL_sQ, gL_sD, kd_nO, kd_nA, *]) (by first | assumption | exact gI_sIs | exact gR_sRs | with_reducible rfl | (simp only [kd_sI, kd_sR, kd_sA, kd_sQ, kd_sL, kd_sD, ln_sI, ln_sR, ln_sA, ln_sQ, ln_sL, ln_sD, gI_sR, gI_sA, gI_sQ, gI_sL, gI_sD, gR_sI, gR_sA, gR_sQ, gR_sL, gR_sD, gA_sI, gA_sR, gA_sQ, gA_sL, gA_sD, gQ_sI, gQ_sR, gQ_sA, gQ_sL, gQ_sD, gL_sI, gL_sR, gL_sA, gL_sQ, gL_sD]; first | done | assumption | with_reducible rfl) | rfl) ?_
            refine r_iload dX3_fewestDrums_132 rfl ?_
            refine r_bipush (v := nI 99) dX3_fewestDrums_134 (by decide) ?_
            refine r_iast dX3_fewestDrums_136 (by first | assumption | (simp only [kd_sI, kd_sR, kd_sA, kd_sQ, kd_sL, kd_sD, ln_sI, ln_sR, ln_sA, ln_sQ, ln_sL, ln_sD, gI_sR, gI_sA, gI_sQ, gI_sL, gI_sD, gR_sI, gR_sA, gR_sQ, gR_sL, gR_sD, gA_sI, gA_sR, gA_sQ, gA_sL, gA_sD, gQ_sI, gQ_sR, gQ_sA, gQ_sL, gQ_sD, gL_sI, gL_sR, gL_sA, gL_sQ, gL_sD]; assumption) | simp [kd_sI, kd_sR, kd_sA, kd_sQ, kd_sL, kd_sD, ln_sI, ln_sR, ln_sA, ln_sQ, ln_sL, ln_sD, gI_sR, gI_sA, gI_sQ, gI_sL, gI_sD, gR_sI, gR_sA, gR_sQ, gR_sL, gR_sD, gA_sI, gA_sR, gA_sQ, gA_sL, gA_sD, gQ_sI, gQ_sR, gQ_sA, gQ_sL, gQ_sD, gL_sI, gL_sR, gL_sA, gL_sQ, gL_sD, kd_nO, kd_nA, *]) (by first | decide | assumption) (by first | assumption | exact gI_sIs | exact gR_sRs | with_reducible rfl | (simp only [kd_sI, kd_sR, kd_sA, kd_sQ, kd_sL, kd_sD, ln_sI, ln_sR, ln_sA, ln_sQ, ln_sL, ln_sD, gI_sR, gI_sA, gI_sQ, gI_sL, gI_sD, gR_sI, gR_sA, gR_sQ, gR_sL, gR_sD, gA_sI, gA_sR, gA_sQ, gA_sL, gA_sD, gQ_sI, gQ_sR, gQ_sA, gQ_sL, gQ_sD, gL_sI, gL_sR, gL_sA, gL_sQ, gL_sD]; first | done | assumption | with_reducible rfl) | rfl) (by first | with_reducible rfl | assumption | (simp only [nI_add, pk_mul, nI_1]; with_reducible rfl)) (by first | assumption | omega) (by first | assumption | omega) ?_
            refine r_iconst (v := nI 0) dX3_fewestDrums_137 (by decide) ?_
            refine r_istore dX3_fewestDrums_138 (Nat.le_of_ble_eq_true rfl) (by simp only [lset]; rfl) ?_
            have inner : ∀ (p k : Nat) (H2 : AH) (o6 o7 o8 o9 : Option AV), k + p = n → MU m ma [86, 87] Hb H2 → (∀ i, i ≤ j → EncD (gA H2 1086 (ma 86)) (gA H2 1087 (ma 87)) R i (leastT ns rs j i)) → EncD (gA H2 1086 (ma 86)) (gA H2 1087 (ma 87)) R (j + 1) (minK ns rs (leastT ns rs j) (j + 1) k) → AW mX3_fewestDrums G d Qr Qx 0 0 H2 140 [some (vR (some m)), some (vI y), some (vI (nI n)), some (vI (nI R)), some (vI (nI (j + 1))), some (vI (nI k)), o6, o7, o8, o9] [] := by
              intro p
              induction p with
              | zero =>
                intro k H2 o6 o7 o8 o9 hk hU2 hE2 hE3
                have hM2 := hMb.mf hU2.1
                have e02 := hM2.1
                rw [show k = n by omega] at hE3 ⊢
                refine r_iload dX3_fewestDrums_140 rfl ?_
                refine r_iload_n (i := 2) dX3_fewestDrums_142 rfl rfl ?_
                refine r_icmp_ge (tgt := 320) dX3_fewestDrums_143 (by decide) (fun h143 => ?_) (fun h143 => ?_)
                · refine r_iinc dX3_fewestDrums_320 rfl (by first | exact nI_1 _ | rfl) (by simp only [lset]; rfl) ?_
                  refine r_goto (tgt := 120) dX3_fewestDrums_323 (by decide) ?_
                  refine ih (j + 1) H2 _ _ _ _ _ (by omega) hU2 ?_
                  intro i hi
                  show EncD _ _ R i (if i = j + 1 then minK ns rs (leastT ns rs j) (j + 1) ns.length else leastT ns rs j i)
                  by_cases h : i = j + 1
                  · rw [if_pos h, h, ← hn]; exact hE3
                  · rw [if_neg h]; exact hE2 i (by omega)
                · exact absurd (nI_le (by omega) (by omega)) h143
              | succ p ihp =>
                intro k H2 o6 o7 o8 o9 hk hU2 hE2 hE3
                have hM2 := hMb.mf hU2.1
                have e02 := hM2.1
                obtain ⟨e84a_2, e84b_2, e84c_2⟩ : gR H2 84 m = some (ma 84) ∧ kd H2 (ma 84) = 1084 ∧ ln H2 (ma 84) = 12 := hM2.2 84 (by decide)
                obtain ⟨e85a_2, e85b_2, e85c_2⟩ : gR H2 85 m = some (ma 85) ∧ kd H2 (ma 85) = 1085 ∧ ln H2 (ma 85) = 10 := hM2.2 85 (by decide)
                obtain ⟨e86a_2, e86b_2, e86c_2⟩ : gR H2 86 m = some (ma 86) ∧ kd H2 (ma 86) = 1086 ∧ ln H2 (ma 86) = 4096 := hM2.2 86 (by decide)
                obtain ⟨e87a_2, e87b_2, e87c_2⟩ : gR H2 87 m = some (ma 87) ∧ kd H2 (ma 87) = 1087 ∧ ln H2 (ma 87) = 4096 := hM2.2 87 (by decide)
                obtain ⟨x1, x2, x3, x4⟩ := xr (s := j + 1) (k := k) (by omega) (by omega)
                have e2 : nI (j + 1) ^^^ (nI 1 <<< (nI k &&& 31)) = nI ((j + 1) ^^^ 2 ^ k) := by rw [sh1 k (by omega), nx_xor]
                have nx := fun H3 o6 o7 o8 o9 h1 h2 h3 => ihp (k + 1) H3 o6 o7 o8 o9 (by omega) h1 h2 h3
                unfold minK at nx
                cases hb : (j + 1).testBit k with
                | false =>
                  rw [hb] at nx x1
                  simp only [Bool.false_eq_true, if_false] at nx x1
                  refine r_iload dX3_fewestDrums_140 rfl ?_
                  refine r_iload_n (i := 2) dX3_fewestDrums_142 rfl rfl ?_
                  refine r_icmp_ge (tgt := 320) dX3_fewestDrums_143 (by decide) (fun h143 => ?_) (fun h143 => ?_)
                  · exact absurd h143 (nI_ge (by omega) (by omega))
                  · refine r_iload dX3_fewestDrums_146 rfl ?_
                    refine r_iconst (v := nI 1) dX3_fewestDrums_148 (by decide) ?_
                    refine r_iload dX3_fewestDrums_149 rfl ?_
                    refine r_ishl dX3_fewestDrums_151 ?_
                    refine r_ixor dX3_fewestDrums_152 ?_
                    refine r_istore dX3_fewestDrums_153 (Nat.le_of_ble_eq_true rfl) (by simp only [lset]; rfl) ?_
                    rw [e2, x1]
                    refine r_iload dX3_fewestDrums_155 rfl ?_
                    refine r_iload dX3_fewestDrums_157 rfl ?_
                    refine r_icmp_gt (tgt := 314) dX3_fewestDrums_159 (by decide) (fun h159 => ?_) (fun h159 => ?_)
                    · refine r_iinc dX3_fewestDrums_314 rfl (by first | exact nI_1 _ | rfl) (by simp only [lset]; rfl) ?_
                      refine r_goto (tgt := 140) dX3_fewestDrums_317 (by decide) ?_
                      exact nx H2 _ _ _ _ hU2 hE2 hE3
                    · exact absurd (nI_lt (show j + 1 < j + 1 + 2 ^ k by omega) (by omega)) (Int32.not_lt.mpr (Int32.not_lt.mp h159))
                | true =>
                  rw [hb] at nx x1
                  simp only [if_true] at nx x1
                  have x2' := x2 hb
                  obtain ⟨l, hl⟩ := ex_val (j + 1 - 2 ^ k)
                  rw [← hl] at nx x1
                  have hEl := hE2 l (by omega)
                  obtain ⟨v, hv⟩ := ex_val (leastT ns rs j l)
                  rw [← hv] at nx hEl
                  obtain ⟨w, hw⟩ := ex_val (minK ns rs (leastT ns rs j) (j + 1) k)
                  have hwR : w ≤ 10000 * R := by rw [hw, hR]; exact minK_le k
                  rw [← hw] at nx hE3
                  obtain ⟨len, hlen⟩ := ex_val (ns.getD k 0)
                  have hlenlt : len < 1000 := by rw [hlen]; exact hnlt _ (getD_mem (by omega))
                  rw [← hlen] at nx
                  have a84 : gA H2 1084 (ma 84) k = nI len := by
                    rw [show gA H2 1084 = gA Hb 1084 from (hU2.2 84 (by decide)).2, hlen]
                    exact hAn k (by omega)
                  have a85 : ∀ i, i < R → gA H2 1085 (ma 85) i = nI (rs.getD i 0) := by
                    intro i hi
                    rw [show gA H2 1085 = gA Hb 1085 from (hU2.2 85 (by decide)).2]
                    exact hAr i (by omega)
                  unfold behF at nx
                  rw [← hR] at nx
                  refine r_iload dX3_fewestDrums_140 rfl ?_
                  refine r_iload_n (i := 2) dX3_fewestDrums_142 rfl rfl ?_
                  refine r_icmp_ge (tgt := 320) dX3_fewestDrums_143 (by decide) (fun h143 => ?_) (fun h143 => ?_)
                  · exact absurd h143 (nI_ge (by omega) (by omega))
                  · refine r_iload dX3_fewestDrums_146 rfl ?_
                    refine r_iconst (v := nI 1) dX3_fewestDrums_148 (by decide) ?_
                    refine r_iload dX3_fewestDrums_149 rfl ?_
                    refine r_ishl dX3_fewestDrums_151 ?_
                    refine r_ixor dX3_fewestDrums_152 ?_
                    refine r_istore dX3_fewestDrums_153 (Nat.le_of_ble_eq_true rfl) (by simp only [lset]; rfl) ?_
                    rw [e2, x1]
                    by_cases hvR : v < 10000 * R
                    · obtain ⟨b1, b2⟩ := hEl.1 hvR
                      have hvd : v / 10000 < R := by omega
                      have r1 := a85 _ hvd
                      have hrd : rs.getD (v / 10000) 0 < 1000 := hrlt _ (getD_mem (by omega))
                      have put : ∀ (o9 : Option AV) (dd u : Nat), dd < R → u < 1000 → (∀ H3 o6 o7 o8 o9, MU m ma [86, 87] Hb H3 → (∀ i, i ≤ j → EncD (gA H3 1086 (ma 86)) (gA H3 1087 (ma 87)) R i (leastT ns rs j i)) → EncD (gA H3 1086 (ma 86)) (gA H3 1087 (ma 87)) R (j + 1) (min w (10000 * dd + u)) → AW mX3_fewestDrums G d Qr Qx 0 0 H3 140 [some (vR (some m)), some (vI y), some (vI (nI n)), some (vI (nI R)), some (vI (nI (j + 1))), some (vI (nI (k + 1))), o6, o7, o8, o9] []) → AW mX3_fewestDrums G d Qr Qx 0 0 H2 260 [some (vR (some m)), some (vI y), some (vI (nI n)), some (vI (nI R)), some (vI (nI (j + 1))), some (vI (nI k)), some (vI (nI l)), some (vI (nI (dd + 1))), some (vI (nI u)), o9] [] := by
                        intro o9 dd u hdd hu nx
                        have wr : 10000 * dd + u < w → AW mX3_fewestDrums G d Qr Qx 0 0 H2 296 [some (vR (some m)), some (vI y), some (vI (nI n)), some (vI (nI R)), some (vI (nI (j + 1))), some (vI (nI k)), some (vI (nI l)), some (vI (nI (dd + 1))), some (vI (nI u)), o9] [] := by
                          intro hlt
                          refine r_aload_n (i := 0) dX3_fewestDrums_296 rfl rfl ?_
                          refine r_getR dX3_fewestDrums_297 fR_X3_44 (by first | assumption | (simp only [kd_sI, kd_sR, kd_sA, kd_sQ, kd_sL, kd_sD, ln_sI, ln_sR, ln_sA, ln_sQ, ln_sL, ln_sD, gI_sR, gI_sA, gI_sQ, gI_sL, gI_sD, gR_sI, gR_sA, gR_sQ, gR_sL, gR_sD, gA_sI, gA_sR, gA_sQ, gA_sL, gA_sD, gQ_sI, gQ_sR, gQ_sA, gQ_sL, gQ_sD, gL_sI, gL_sR, gL_sA, gL_sQ, gL_sD]; assumption) | simp [kd_sI, kd_sR, kd_sA, kd_sQ, kd_sL, kd_sD, ln_sI, ln_sR, ln_sA, ln_sQ, ln_sL, ln_sD, gI_sR, gI_sA, gI_sQ, gI_sL, gI_sD, gR_sI, gR_sA, gR_sQ, gR_sL, gR_sD, gA_sI, gA_sR, gA_sQ, gA_sL, gA_sD, gQ_sI, gQ_sR, gQ_sA, gQ_sL, gQ_sD, gL_sI, gL_sR, gL_sA, gL_sQ, gL_sD, kd_nO, kd_nA, *]) (by first | assumption | exact gI_sIs | exact gR_sRs | with_reducible rfl | (simp only [kd_sI, kd_sR, kd_sA, kd_sQ, kd_sL, kd_sD, ln_sI, ln_sR, ln_sA, ln_sQ, ln_sL, ln_sD, gI_sR, gI_sA, gI_sQ, gI_sL, gI_sD, gR_sI, gR_sA, gR_sQ, gR_sL, gR_sD, gA_sI, gA_sR, gA_sQ, gA_sL, gA_sD, gQ_sI, gQ_sR, gQ_sA, gQ_sL, gQ_sD, gL_sI, gL_sR, gL_sA, gL_sQ, gL_sD]; first | done | assumption | with_reducible rfl) | rfl) ?_
                          refine r_iload dX3_fewestDrums_300 rfl ?_
                          refine r_iload dX3_fewestDrums_302 rfl ?_
                          refine r_iast dX3_fewestDrums_304 (by first | assumption | (simp only [kd_sI, kd_sR, kd_sA, kd_sQ, kd_sL, kd_sD, ln_sI, ln_sR, ln_sA, ln_sQ, ln_sL, ln_sD, gI_sR, gI_sA, gI_sQ, gI_sL, gI_sD, gR_sI, gR_sA, gR_sQ, gR_sL, gR_sD, gA_sI, gA_sR, gA_sQ, gA_sL, gA_sD, gQ_sI, gQ_sR, gQ_sA, gQ_sL, gQ_sD, gL_sI, gL_sR, gL_sA, gL_sQ, gL_sD]; assumption) | simp [kd_sI, kd_sR, kd_sA, kd_sQ, kd_sL, kd_sD, ln_sI, ln_sR, ln_sA, ln_sQ, ln_sL, ln_sD, gI_sR, gI_sA, gI_sQ, gI_sL, gI_sD, gR_sI, gR_sA, gR_sQ, gR_sL, gR_sD, gA_sI, gA_sR, gA_sQ, gA_sL, gA_sD, gQ_sI, gQ_sR, gQ_sA, gQ_sL, gQ_sD, gL_sI, gL_sR, gL_sA, gL_sQ, gL_sD, kd_nO, kd_nA, *]) (by first | decide | assumption) (by first | assumption | exact gI_sIs | exact gR_sRs | with_reducible rfl | (simp only [kd_sI, kd_sR, kd_sA, kd_sQ, kd_sL, kd_sD, ln_sI, ln_sR, ln_sA, ln_sQ, ln_sL, ln_sD, gI_sR, gI_sA, gI_sQ, gI_sL, gI_sD, gR_sI, gR_sA, gR_sQ, gR_sL, gR_sD, gA_sI, gA_sR, gA_sQ, gA_sL, gA_sD, gQ_sI, gQ_sR, gQ_sA, gQ_sL, gQ_sD, gL_sI, gL_sR, gL_sA, gL_sQ, gL_sD]; first | done | assumption | with_reducible rfl) | rfl) (by first | with_reducible rfl | assumption | (simp only [nI_add, pk_mul, nI_1]; with_reducible rfl)) (by first | assumption | omega) (by first | assumption | omega) ?_
                          refine r_aload_n (i := 0) dX3_fewestDrums_305 rfl rfl ?_
                          refine r_getR dX3_fewestDrums_306 fR_X3_47 (by first | assumption | (simp only [kd_sI, kd_sR, kd_sA, kd_sQ, kd_sL, kd_sD, ln_sI, ln_sR, ln_sA, ln_sQ, ln_sL, ln_sD, gI_sR, gI_sA, gI_sQ, gI_sL, gI_sD, gR_sI, gR_sA, gR_sQ, gR_sL, gR_sD, gA_sI, gA_sR, gA_sQ, gA_sL, gA_sD, gQ_sI, gQ_sR, gQ_sA, gQ_sL, gQ_sD, gL_sI, gL_sR, gL_sA, gL_sQ, gL_sD]; assumption) | simp [kd_sI, kd_sR, kd_sA, kd_sQ, kd_sL, kd_sD, ln_sI, ln_sR, ln_sA, ln_sQ, ln_sL, ln_sD, gI_sR, gI_sA, gI_sQ, gI_sL, gI_sD, gR_sI, gR_sA, gR_sQ, gR_sL, gR_sD, gA_sI, gA_sR, gA_sQ, gA_sL, gA_sD, gQ_sI, gQ_sR, gQ_sA, gQ_sL, gQ_sD, gL_sI, gL_sR, gL_sA, gL_sQ, gL_sD, kd_nO, kd_nA, *]) (by first | assumption | exact gI_sIs | exact gR_sRs | with_reducible rfl | (simp only [kd_sI, kd_sR, kd_sA, kd_sQ, kd_sL, kd_sD, ln_sI, ln_sR, ln_sA, ln_sQ, ln_sL, ln_sD, gI_sR, gI_sA, gI_sQ, gI_sL, gI_sD, gR_sI, gR_sA, gR_sQ, gR_sL, gR_sD, gA_sI, gA_sR, gA_sQ, gA_sL, gA_sD, gQ_sI, gQ_sR, gQ_sA, gQ_sL, gQ_sD, gL_sI, gL_sR, gL_sA, gL_sQ, gL_sD]; first | done | assumption | with_reducible rfl) | rfl) ?_
                          refine r_iload dX3_fewestDrums_309 rfl ?_
                          refine r_iload dX3_fewestDrums_311 rfl ?_
                          refine r_iast dX3_fewestDrums_313 (by first | assumption | (simp only [kd_sI, kd_sR, kd_sA, kd_sQ, kd_sL, kd_sD, ln_sI, ln_sR, ln_sA, ln_sQ, ln_sL, ln_sD, gI_sR, gI_sA, gI_sQ, gI_sL, gI_sD, gR_sI, gR_sA, gR_sQ, gR_sL, gR_sD, gA_sI, gA_sR, gA_sQ, gA_sL, gA_sD, gQ_sI, gQ_sR, gQ_sA, gQ_sL, gQ_sD, gL_sI, gL_sR, gL_sA, gL_sQ, gL_sD]; assumption) | simp [kd_sI, kd_sR, kd_sA, kd_sQ, kd_sL, kd_sD, ln_sI, ln_sR, ln_sA, ln_sQ, ln_sL, ln_sD, gI_sR, gI_sA, gI_sQ, gI_sL, gI_sD, gR_sI, gR_sA, gR_sQ, gR_sL, gR_sD, gA_sI, gA_sR, gA_sQ, gA_sL, gA_sD, gQ_sI, gQ_sR, gQ_sA, gQ_sL, gQ_sD, gL_sI, gL_sR, gL_sA, gL_sQ, gL_sD, kd_nO, kd_nA, *]) (by first | decide | assumption) (by first | assumption | exact gI_sIs | exact gR_sRs | with_reducible rfl | (simp only [kd_sI, kd_sR, kd_sA, kd_sQ, kd_sL, kd_sD, ln_sI, ln_sR, ln_sA, ln_sQ, ln_sL, ln_sD, gI_sR, gI_sA, gI_sQ, gI_sL, gI_sD, gR_sI, gR_sA, gR_sQ, gR_sL, gR_sD, gA_sI, gA_sR, gA_sQ, gA_sL, gA_sD, gQ_sI, gQ_sR, gQ_sA, gQ_sL, gQ_sD, gL_sI, gL_sR, gL_sA, gL_sQ, gL_sD]; first | done | assumption | with_reducible rfl) | rfl) (by first | with_reducible rfl | assumption | (simp only [nI_add, pk_mul, nI_1]; with_reducible rfl)) (by first | assumption | omega) (by first | assumption | omega) ?_
                          refine r_iinc dX3_fewestDrums_314 rfl (by first | exact nI_1 _ | rfl) (by simp only [lset]; rfl) ?_
                          refine r_goto (tgt := 140) dX3_fewestDrums_317 (by decide) ?_
                          refine nx _ _ _ _ _ ((hU2.sA (f := 86) (Or.inl (by decide)) (by decide) (by decide)).sA (f := 87) (Or.inl (by decide)) (by decide) (by decide)) ?_ ?_
                          · intro i hi
                            have := hE2 i hi
                            have q86 : gA (sA (sA H2 1086 (ma 86) (upd (gA H2 1086 (ma 86)) (j + 1) (nI (dd + 1)))) 1087 (ma 87) (upd (gA (sA H2 1086 (ma 86) (upd (gA H2 1086 (ma 86)) (j + 1) (nI (dd + 1)))) 1087 (ma 87)) (j + 1) (nI u))) 1086 (ma 86) i = gA H2 1086 (ma 86) i := by
                              rw [gA_sA, if_neg (by omega), gA_sAs, upd_n (by omega)]
                            have q87 : gA (sA (sA H2 1086 (ma 86) (upd (gA H2 1086 (ma 86)) (j + 1) (nI (dd + 1)))) 1087 (ma 87) (upd (gA (sA H2 1086 (ma 86) (upd (gA H2 1086 (ma 86)) (j + 1) (nI (dd + 1)))) 1087 (ma 87)) (j + 1) (nI u))) 1087 (ma 87) i = gA H2 1087 (ma 87) i := by
                              rw [gA_sAs, upd_n (by omega), gA_sA, if_neg (by omega)]
                            unfold EncD
                            rw [q86, q87]
                            exact this
                          · rw [Nat.min_eq_right (by omega)]
                            refine ⟨fun _ => ⟨?_, ?_⟩, fun hh => absurd (show 10000 * dd + u < 10000 * R by omega) hh⟩
                            · rw [gA_sA, if_neg (by omega), gA_sAs, upd_s, show (10000 * dd + u) / 10000 = dd by omega]
                            · rw [gA_sAs, upd_s, show (10000 * dd + u) % 10000 = u by omega]
                        have sk : ¬ 10000 * dd + u < w → AW mX3_fewestDrums G d Qr Qx 0 0 H2 314 [some (vR (some m)), some (vI y), some (vI (nI n)), some (vI (nI R)), some (vI (nI (j + 1))), some (vI (nI k)), some (vI (nI l)), some (vI (nI (dd + 1))), some (vI (nI u)), o9] [] := by
                          intro hlt
                          refine r_iinc dX3_fewestDrums_314 rfl (by first | exact nI_1 _ | rfl) (by simp only [lset]; rfl) ?_
                          refine r_goto (tgt := 140) dX3_fewestDrums_317 (by decide) ?_
                          refine nx H2 _ _ _ _ hU2 hE2 ?_
                          rw [Nat.min_eq_left (by omega)]
                          exact hE3
                        by_cases hwlt : w < 10000 * R
                        · obtain ⟨c1, c2⟩ := hE3.1 hwlt
                          refine r_iload dX3_fewestDrums_260 rfl ?_
                          refine r_aload_n (i := 0) dX3_fewestDrums_262 rfl rfl ?_
                          refine r_getR dX3_fewestDrums_263 fR_X3_44 (by first | assumption | (simp only [kd_sI, kd_sR, kd_sA, kd_sQ, kd_sL, kd_sD, ln_sI, ln_sR, ln_sA, ln_sQ, ln_sL, ln_sD, gI_sR, gI_sA, gI_sQ, gI_sL, gI_sD, gR_sI, gR_sA, gR_sQ, gR_sL, gR_sD, gA_sI, gA_sR, gA_sQ, gA_sL, gA_sD, gQ_sI, gQ_sR, gQ_sA, gQ_sL, gQ_sD, gL_sI, gL_sR, gL_sA, gL_sQ, gL_sD]; assumption) | simp [kd_sI, kd_sR, kd_sA, kd_sQ, kd_sL, kd_sD, ln_sI, ln_sR, ln_sA, ln_sQ, ln_sL, ln_sD, gI_sR, gI_sA, gI_sQ, gI_sL, gI_sD, gR_sI, gR_sA, gR_sQ, gR_sL, gR_sD, gA_sI, gA_sR, gA_sQ, gA_sL, gA_sD, gQ_sI, gQ_sR, gQ_sA, gQ_sL, gQ_sD, gL_sI, gL_sR, gL_sA, gL_sQ, gL_sD, kd_nO, kd_nA, *]) (by first | assumption | exact gI_sIs | exact gR_sRs | with_reducible rfl | (simp only [kd_sI, kd_sR, kd_sA, kd_sQ, kd_sL, kd_sD, ln_sI, ln_sR, ln_sA, ln_sQ, ln_sL, ln_sD, gI_sR, gI_sA, gI_sQ, gI_sL, gI_sD, gR_sI, gR_sA, gR_sQ, gR_sL, gR_sD, gA_sI, gA_sR, gA_sQ, gA_sL, gA_sD, gQ_sI, gQ_sR, gQ_sA, gQ_sL, gQ_sD, gL_sI, gL_sR, gL_sA, gL_sQ, gL_sD]; first | done | assumption | with_reducible rfl) | rfl) ?_
                          refine r_iload dX3_fewestDrums_266 rfl ?_
                          refine r_iald dX3_fewestDrums_268 (by first | assumption | (simp only [kd_sI, kd_sR, kd_sA, kd_sQ, kd_sL, kd_sD, ln_sI, ln_sR, ln_sA, ln_sQ, ln_sL, ln_sD, gI_sR, gI_sA, gI_sQ, gI_sL, gI_sD, gR_sI, gR_sA, gR_sQ, gR_sL, gR_sD, gA_sI, gA_sR, gA_sQ, gA_sL, gA_sD, gQ_sI, gQ_sR, gQ_sA, gQ_sL, gQ_sD, gL_sI, gL_sR, gL_sA, gL_sQ, gL_sD]; assumption) | simp [kd_sI, kd_sR, kd_sA, kd_sQ, kd_sL, kd_sD, ln_sI, ln_sR, ln_sA, ln_sQ, ln_sL, ln_sD, gI_sR, gI_sA, gI_sQ, gI_sL, gI_sD, gR_sI, gR_sA, gR_sQ, gR_sL, gR_sD, gA_sI, gA_sR, gA_sQ, gA_sL, gA_sD, gQ_sI, gQ_sR, gQ_sA, gQ_sL, gQ_sD, gL_sI, gL_sR, gL_sA, gL_sQ, gL_sD, kd_nO, kd_nA, *]) (by first | decide | assumption) (by first | assumption | exact gI_sIs | exact gR_sRs | with_reducible rfl | (simp only [kd_sI, kd_sR, kd_sA, kd_sQ, kd_sL, kd_sD, ln_sI, ln_sR, ln_sA, ln_sQ, ln_sL, ln_sD, gI_sR, gI_sA, gI_sQ, gI_sL, gI_sD, gR_sI, gR_sA, gR_sQ, gR_sL, gR_sD, gA_sI, gA_sR, gA_sQ, gA_sL, gA_sD, gQ_sI, gQ_sR, gQ_sA, gQ_sL, gQ_sD, gL_sI, gL_sR, gL_sA, gL_sQ, gL_sD]; first | done | assumption | with_reducible rfl) | rfl) (by first | with_reducible rfl | assumption | (simp only [nI_add, pk_mul, nI_1]; with_reducible rfl)) (by first | assumption | omega) (by first | assumption | omega) (by first | assumption | exact gI_sIs | exact gR_sRs | with_reducible rfl | (simp only [kd_sI, kd_sR, kd_sA, kd_sQ, kd_sL, kd_sD, ln_sI, ln_sR, ln_sA, ln_sQ, ln_sL, ln_sD, gI_sR, gI_sA, gI_sQ, gI_sL, gI_sD, gR_sI, gR_sA, gR_sQ, gR_sL, gR_sD, gA_sI, gA_sR, gA_sQ, gA_sL, gA_sD, gQ_sI, gQ_sR, gQ_sA, gQ_sL, gQ_sD, gL_sI, gL_sR, gL_sA, gL_sQ, gL_sD]; first | done | assumption | with_reducible rfl) | rfl) ?_
                          refine r_icmp_lt (tgt := 296) dX3_fewestDrums_269 (by decide) (fun h269 => ?_) (fun h269 => ?_)
                          · exact wr (by have := (nI_ltI (by omega) (by omega)).mp h269; omega)
                          · have hnl : ¬ dd + 1 < w / 10000 + 1 := fun q => h269 (nI_lt q (by omega))
                            refine r_iload dX3_fewestDrums_272 rfl ?_
                            refine r_aload_n (i := 0) dX3_fewestDrums_274 rfl rfl ?_
                            refine r_getR dX3_fewestDrums_275 fR_X3_44 (by first | assumption | (simp only [kd_sI, kd_sR, kd_sA, kd_sQ, kd_sL, kd_sD, ln_sI, ln_sR, ln_sA, ln_sQ, ln_sL, ln_sD, gI_sR, gI_sA, gI_sQ, gI_sL, gI_sD, gR_sI, gR_sA, gR_sQ, gR_sL, gR_sD, gA_sI, gA_sR, gA_sQ, gA_sL, gA_sD, gQ_sI, gQ_sR, gQ_sA, gQ_sL, gQ_sD, gL_sI, gL_sR, gL_sA, gL_sQ, gL_sD]; assumption) | simp [kd_sI, kd_sR, kd_sA, kd_sQ, kd_sL, kd_sD, ln_sI, ln_sR, ln_sA, ln_sQ, ln_sL, ln_sD, gI_sR, gI_sA, gI_sQ, gI_sL, gI_sD, gR_sI, gR_sA, gR_sQ, gR_sL, gR_sD, gA_sI, gA_sR, gA_sQ, gA_sL, gA_sD, gQ_sI, gQ_sR, gQ_sA, gQ_sL, gQ_sD, gL_sI, gL_sR, gL_sA, gL_sQ, gL_sD, kd_nO, kd_nA, *]) (by first | assumption | exact gI_sIs | exact gR_sRs | with_reducible rfl | (simp only [kd_sI, kd_sR, kd_sA, kd_sQ, kd_sL, kd_sD, ln_sI, ln_sR, ln_sA, ln_sQ, ln_sL, ln_sD, gI_sR, gI_sA, gI_sQ, gI_sL, gI_sD, gR_sI, gR_sA, gR_sQ, gR_sL, gR_sD, gA_sI, gA_sR, gA_sQ, gA_sL, gA_sD, gQ_sI, gQ_sR, gQ_sA, gQ_sL, gQ_sD, gL_sI, gL_sR, gL_sA, gL_sQ, gL_sD]; first | done | assumption | with_reducible rfl) | rfl) ?_
                            refine r_iload dX3_fewestDrums_278 rfl ?_
                            refine r_iald dX3_fewestDrums_280 (by first | assumption | (simp only [kd_sI, kd_sR, kd_sA, kd_sQ, kd_sL, kd_sD, ln_sI, ln_sR, ln_sA, ln_sQ, ln_sL, ln_sD, gI_sR, gI_sA, gI_sQ, gI_sL, gI_sD, gR_sI, gR_sA, gR_sQ, gR_sL, gR_sD, gA_sI, gA_sR, gA_sQ, gA_sL, gA_sD, gQ_sI, gQ_sR, gQ_sA, gQ_sL, gQ_sD, gL_sI, gL_sR, gL_sA, gL_sQ, gL_sD]; assumption) | simp [kd_sI, kd_sR, kd_sA, kd_sQ, kd_sL, kd_sD, ln_sI, ln_sR, ln_sA, ln_sQ, ln_sL, ln_sD, gI_sR, gI_sA, gI_sQ, gI_sL, gI_sD, gR_sI, gR_sA, gR_sQ, gR_sL, gR_sD, gA_sI, gA_sR, gA_sQ, gA_sL, gA_sD, gQ_sI, gQ_sR, gQ_sA, gQ_sL, gQ_sD, gL_sI, gL_sR, gL_sA, gL_sQ, gL_sD, kd_nO, kd_nA, *]) (by first | decide | assumption) (by first | assumption | exact gI_sIs | exact gR_sRs | with_reducible rfl | (simp only [kd_sI, kd_sR, kd_sA, kd_sQ, kd_sL, kd_sD, ln_sI, ln_sR, ln_sA, ln_sQ, ln_sL, ln_sD, gI_sR, gI_sA, gI_sQ, gI_sL, gI_sD, gR_sI, gR_sA, gR_sQ, gR_sL, gR_sD, gA_sI, gA_sR, gA_sQ, gA_sL, gA_sD, gQ_sI, gQ_sR, gQ_sA, gQ_sL, gQ_sD, gL_sI, gL_sR, gL_sA, gL_sQ, gL_sD]; first | done | assumption | with_reducible rfl) | rfl) (by first | with_reducible rfl | assumption | (simp only [nI_add, pk_mul, nI_1]; with_reducible rfl)) (by first | assumption | omega) (by first | assumption | omega) (by first | assumption | exact gI_sIs | exact gR_sRs | with_reducible rfl | (simp only [kd_sI, kd_sR, kd_sA, kd_sQ, kd_sL, kd_sD, ln_sI, ln_sR, ln_sA, ln_sQ, ln_sL, ln_sD, gI_sR, gI_sA, gI_sQ, gI_sL, gI_sD, gR_sI, gR_sA, gR_sQ, gR_sL, gR_sD, gA_sI, gA_sR, gA_sQ, gA_sL, gA_sD, gQ_sI, gQ_sR, gQ_sA, gQ_sL, gQ_sD, gL_sI, gL_sR, gL_sA, gL_sQ, gL_sD]; first | done | assumption | with_reducible rfl) | rfl) ?_
                            refine r_icmp_ne (tgt := 314) dX3_fewestDrums_281 (by decide) (fun h281 => ?_) (fun h281 => ?_)
                            · have hne : dd + 1 ≠ w / 10000 + 1 := fun q => h281 (by rw [q])
                              exact sk (by omega)
                            · have heq := (nI_eq (by omega) (by omega)).mp h281
                              refine r_iload dX3_fewestDrums_284 rfl ?_
                              refine r_aload_n (i := 0) dX3_fewestDrums_286 rfl rfl ?_
                              refine r_getR dX3_fewestDrums_287 fR_X3_47 (by first | assumption | (simp only [kd_sI, kd_sR, kd_sA, kd_sQ, kd_sL, kd_sD, ln_sI, ln_sR, ln_sA, ln_sQ, ln_sL, ln_sD, gI_sR, gI_sA, gI_sQ, gI_sL, gI_sD, gR_sI, gR_sA, gR_sQ, gR_sL, gR_sD, gA_sI, gA_sR, gA_sQ, gA_sL, gA_sD, gQ_sI, gQ_sR, gQ_sA, gQ_sL, gQ_sD, gL_sI, gL_sR, gL_sA, gL_sQ, gL_sD]; assumption) | simp [kd_sI, kd_sR, kd_sA, kd_sQ, kd_sL, kd_sD, ln_sI, ln_sR, ln_sA, ln_sQ, ln_sL, ln_sD, gI_sR, gI_sA, gI_sQ, gI_sL, gI_sD, gR_sI, gR_sA, gR_sQ, gR_sL, gR_sD, gA_sI, gA_sR, gA_sQ, gA_sL, gA_sD, gQ_sI, gQ_sR, gQ_sA, gQ_sL, gQ_sD, gL_sI, gL_sR, gL_sA, gL_sQ, gL_sD, kd_nO, kd_nA, *]) (by first | assumption | exact gI_sIs | exact gR_sRs | with_reducible rfl | (simp only [kd_sI, kd_sR, kd_sA, kd_sQ, kd_sL, kd_sD, ln_sI, ln_sR, ln_sA, ln_sQ, ln_sL, ln_sD, gI_sR, gI_sA, gI_sQ, gI_sL, gI_sD, gR_sI, gR_sA, gR_sQ, gR_sL, gR_sD, gA_sI, gA_sR, gA_sQ, gA_sL, gA_sD, gQ_sI, gQ_sR, gQ_sA, gQ_sL, gQ_sD, gL_sI, gL_sR, gL_sA, gL_sQ, gL_sD]; first | done | assumption | with_reducible rfl) | rfl) ?_
                              refine r_iload dX3_fewestDrums_290 rfl ?_
                              refine r_iald dX3_fewestDrums_292 (by first | assumption | (simp only [kd_sI, kd_sR, kd_sA, kd_sQ, kd_sL, kd_sD, ln_sI, ln_sR, ln_sA, ln_sQ, ln_sL, ln_sD, gI_sR, gI_sA, gI_sQ, gI_sL, gI_sD, gR_sI, gR_sA, gR_sQ, gR_sL, gR_sD, gA_sI, gA_sR, gA_sQ, gA_sL, gA_sD, gQ_sI, gQ_sR, gQ_sA, gQ_sL, gQ_sD, gL_sI, gL_sR, gL_sA, gL_sQ, gL_sD]; assumption) | simp [kd_sI, kd_sR, kd_sA, kd_sQ, kd_sL, kd_sD, ln_sI, ln_sR, ln_sA, ln_sQ, ln_sL, ln_sD, gI_sR, gI_sA, gI_sQ, gI_sL, gI_sD, gR_sI, gR_sA, gR_sQ, gR_sL, gR_sD, gA_sI, gA_sR, gA_sQ, gA_sL, gA_sD, gQ_sI, gQ_sR, gQ_sA, gQ_sL, gQ_sD, gL_sI, gL_sR, gL_sA, gL_sQ, gL_sD, kd_nO, kd_nA, *]) (by first | decide | assumption) (by first | assumption | exact gI_sIs | exact gR_sRs | with_reducible rfl | (simp only [kd_sI, kd_sR, kd_sA, kd_sQ, kd_sL, kd_sD, ln_sI, ln_sR, ln_sA, ln_sQ, ln_sL, ln_sD, gI_sR, gI_sA, gI_sQ, gI_sL, gI_sD, gR_sI, gR_sA, gR_sQ, gR_sL, gR_sD, gA_sI, gA_sR, gA_sQ, gA_sL, gA_sD, gQ_sI, gQ_sR, gQ_sA, gQ_sL, gQ_sD, gL_sI, gL_sR, gL_sA, gL_sQ, gL_sD]; first | done | assumption | with_reducible rfl) | rfl) (by first | with_reducible rfl | assumption | (simp only [nI_add, pk_mul, nI_1]; with_reducible rfl)) (by first | assumption | omega) (by first | assumption | omega) (by first | assumption | exact gI_sIs | exact gR_sRs | with_reducible rfl | (simp only [kd_sI, kd_sR, kd_sA, kd_sQ, kd_sL, kd_sD, ln_sI, ln_sR, ln_sA, ln_sQ, ln_sL, ln_sD, gI_sR, gI_sA, gI_sQ, gI_sL, gI_sD, gR_sI, gR_sA, gR_sQ, gR_sL, gR_sD, gA_sI, gA_sR, gA_sQ, gA_sL, gA_sD, gQ_sI, gQ_sR, gQ_sA, gQ_sL, gQ_sD, gL_sI, gL_sR, gL_sA, gL_sQ, gL_sD]; first | done | assumption | with_reducible rfl) | rfl) ?_
                              refine r_icmp_ge (tgt := 314) dX3_fewestDrums_293 (by decide) (fun h293 => ?_) (fun h293 => ?_)
                              · exact sk (by have := (nI_leI (by omega) (by omega)).mp h293; omega)
                              · exact wr (by have : ¬ w % 10000 ≤ u := fun q => h293 (nI_le q (by omega)); omega)
                        · have c1 := hE3.2 hwlt
                          refine r_iload dX3_fewestDrums_260 rfl ?_
                          refine r_aload_n (i := 0) dX3_fewestDrums_262 rfl rfl ?_
                          refine r_getR dX3_fewestDrums_263 fR_X3_44 (by first | assumption | (simp only [kd_sI, kd_sR, kd_sA, kd_sQ, kd_sL, kd_sD, ln_sI, ln_sR, ln_sA, ln_sQ, ln_sL, ln_sD, gI_sR, gI_sA, gI_sQ, gI_sL, gI_sD, gR_sI, gR_sA, gR_sQ, gR_sL, gR_sD, gA_sI, gA_sR, gA_sQ, gA_sL, gA_sD, gQ_sI, gQ_sR, gQ_sA, gQ_sL, gQ_sD, gL_sI, gL_sR, gL_sA, gL_sQ, gL_sD]; assumption) | simp [kd_sI, kd_sR, kd_sA, kd_sQ, kd_sL, kd_sD, ln_sI, ln_sR, ln_sA, ln_sQ, ln_sL, ln_sD, gI_sR, gI_sA, gI_sQ, gI_sL, gI_sD, gR_sI, gR_sA, gR_sQ, gR_sL, gR_sD, gA_sI, gA_sR, gA_sQ, gA_sL, gA_sD, gQ_sI, gQ_sR, gQ_sA, gQ_sL, gQ_sD, gL_sI, gL_sR, gL_sA, gL_sQ, gL_sD, kd_nO, kd_nA, *]) (by first | assumption | exact gI_sIs | exact gR_sRs | with_reducible rfl | (simp only [kd_sI, kd_sR, kd_sA, kd_sQ, kd_sL, kd_sD, ln_sI, ln_sR, ln_sA, ln_sQ, ln_sL, ln_sD, gI_sR, gI_sA, gI_sQ, gI_sL, gI_sD, gR_sI, gR_sA, gR_sQ, gR_sL, gR_sD, gA_sI, gA_sR, gA_sQ, gA_sL, gA_sD, gQ_sI, gQ_sR, gQ_sA, gQ_sL, gQ_sD, gL_sI, gL_sR, gL_sA, gL_sQ, gL_sD]; first | done | assumption | with_reducible rfl) | rfl) ?_
                          refine r_iload dX3_fewestDrums_266 rfl ?_
                          refine r_iald dX3_fewestDrums_268 (by first | assumption | (simp only [kd_sI, kd_sR, kd_sA, kd_sQ, kd_sL, kd_sD, ln_sI, ln_sR, ln_sA, ln_sQ, ln_sL, ln_sD, gI_sR, gI_sA, gI_sQ, gI_sL, gI_sD, gR_sI, gR_sA, gR_sQ, gR_sL, gR_sD, gA_sI, gA_sR, gA_sQ, gA_sL, gA_sD, gQ_sI, gQ_sR, gQ_sA, gQ_sL, gQ_sD, gL_sI, gL_sR, gL_sA, gL_sQ, gL_sD]; assumption) | simp [kd_sI, kd_sR, kd_sA, kd_sQ, kd_sL, kd_sD, ln_sI, ln_sR, ln_sA, ln_sQ, ln_sL, ln_sD, gI_sR, gI_sA, gI_sQ, gI_sL, gI_sD, gR_sI, gR_sA, gR_sQ, gR_sL, gR_sD, gA_sI, gA_sR, gA_sQ, gA_sL, gA_sD, gQ_sI, gQ_sR, gQ_sA, gQ_sL, gQ_sD, gL_sI, gL_sR, gL_sA, gL_sQ, gL_sD, kd_nO, kd_nA, *]) (by first | decide | assumption) (by first | assumption | exact gI_sIs | exact gR_sRs | with_reducible rfl | (simp only [kd_sI, kd_sR, kd_sA, kd_sQ, kd_sL, kd_sD, ln_sI, ln_sR, ln_sA, ln_sQ, ln_sL, ln_sD, gI_sR, gI_sA, gI_sQ, gI_sL, gI_sD, gR_sI, gR_sA, gR_sQ, gR_sL, gR_sD, gA_sI, gA_sR, gA_sQ, gA_sL, gA_sD, gQ_sI, gQ_sR, gQ_sA, gQ_sL, gQ_sD, gL_sI, gL_sR, gL_sA, gL_sQ, gL_sD]; first | done | assumption | with_reducible rfl) | rfl) (by first | with_reducible rfl | assumption | (simp only [nI_add, pk_mul, nI_1]; with_reducible rfl)) (by first | assumption | omega) (by first | assumption | omega) (by first | assumption | exact gI_sIs | exact gR_sRs | with_reducible rfl | (simp only [kd_sI, kd_sR, kd_sA, kd_sQ, kd_sL, kd_sD, ln_sI, ln_sR, ln_sA, ln_sQ, ln_sL, ln_sD, gI_sR, gI_sA, gI_sQ, gI_sL, gI_sD, gR_sI, gR_sA, gR_sQ, gR_sL, gR_sD, gA_sI, gA_sR, gA_sQ, gA_sL, gA_sD, gQ_sI, gQ_sR, gQ_sA, gQ_sL, gQ_sD, gL_sI, gL_sR, gL_sA, gL_sQ, gL_sD]; first | done | assumption | with_reducible rfl) | rfl) ?_
                          refine r_icmp_lt (tgt := 296) dX3_fewestDrums_269 (by decide) (fun h269 => ?_) (fun h269 => ?_)
                          · exact wr (by omega)
                          · exact absurd (nI_lt (show dd + 1 < 99 by omega) (by omega)) h269
                      have skip : ∀ (o6 o7 o8 o9 : Option AV), (∀ H3 o6 o7 o8 o9, MU m ma [86, 87] Hb H3 → (∀ i, i ≤ j → EncD (gA H3 1086 (ma 86)) (gA H3 1087 (ma 87)) R i (leastT ns rs j i)) → EncD (gA H3 1086 (ma 86)) (gA H3 1087 (ma 87)) R (j + 1) (min w (10000 * R)) → AW mX3_fewestDrums G d Qr Qx 0 0 H3 140 [some (vR (some m)), some (vI y), some (vI (nI n)), some (vI (nI R)), some (vI (nI (j + 1))), some (vI (nI (k + 1))), o6, o7, o8, o9] []) → AW mX3_fewestDrums G d Qr Qx 0 0 H2 314 [some (vR (some m)), some (vI y), some (vI (nI n)), some (vI (nI R)), some (vI (nI (j + 1))), some (vI (nI k)), o6, o7, o8, o9] [] := by
                        intro o6 o7 o8 o9 nx
                        refine r_iinc dX3_fewestDrums_314 rfl (by first | exact nI_1 _ | rfl) (by simp only [lset]; rfl) ?_
                        refine r_goto (tgt := 140) dX3_fewestDrums_317 (by decide) ?_
                        refine nx H2 _ _ _ _ hU2 hE2 ?_
                        rw [Nat.min_eq_left hwR]
                        exact hE3
                      rw [if_pos hvd] at nx
                      refine r_iload dX3_fewestDrums_155 rfl ?_
                      refine r_iload dX3_fewestDrums_157 rfl ?_
                      refine r_icmp_gt (tgt := 314) dX3_fewestDrums_159 (by decide) (fun h159 => ?_) (fun h159 => ?_)
                      · exact absurd h159 (Int32.not_lt.mpr (nI_le (by omega) (by omega)))
                      · refine r_aload_n (i := 0) dX3_fewestDrums_162 rfl rfl ?_
                        refine r_getR dX3_fewestDrums_163 fR_X3_44 (by first | assumption | (simp only [kd_sI, kd_sR, kd_sA, kd_sQ, kd_sL, kd_sD, ln_sI, ln_sR, ln_sA, ln_sQ, ln_sL, ln_sD, gI_sR, gI_sA, gI_sQ, gI_sL, gI_sD, gR_sI, gR_sA, gR_sQ, gR_sL, gR_sD, gA_sI, gA_sR, gA_sQ, gA_sL, gA_sD, gQ_sI, gQ_sR, gQ_sA, gQ_sL, gQ_sD, gL_sI, gL_sR, gL_sA, gL_sQ, gL_sD]; assumption) | simp [kd_sI, kd_sR, kd_sA, kd_sQ, kd_sL, kd_sD, ln_sI, ln_sR, ln_sA, ln_sQ, ln_sL, ln_sD, gI_sR, gI_sA, gI_sQ, gI_sL, gI_sD, gR_sI, gR_sA, gR_sQ, gR_sL, gR_sD, gA_sI, gA_sR, gA_sQ, gA_sL, gA_sD, gQ_sI, gQ_sR, gQ_sA, gQ_sL, gQ_sD, gL_sI, gL_sR, gL_sA, gL_sQ, gL_sD, kd_nO, kd_nA, *]) (by first | assumption | exact gI_sIs | exact gR_sRs | with_reducible rfl | (simp only [kd_sI, kd_sR, kd_sA, kd_sQ, kd_sL, kd_sD, ln_sI, ln_sR, ln_sA, ln_sQ, ln_sL, ln_sD, gI_sR, gI_sA, gI_sQ, gI_sL, gI_sD, gR_sI, gR_sA, gR_sQ, gR_sL, gR_sD, gA_sI, gA_sR, gA_sQ, gA_sL, gA_sD, gQ_sI, gQ_sR, gQ_sA, gQ_sL, gQ_sD, gL_sI, gL_sR, gL_sA, gL_sQ, gL_sD]; first | done | assumption | with_reducible rfl) | rfl) ?_
                        refine r_iload dX3_fewestDrums_166 rfl ?_
                        refine r_iald dX3_fewestDrums_168 (by first | assumption | (simp only [kd_sI, kd_sR, kd_sA, kd_sQ, kd_sL, kd_sD, ln_sI, ln_sR, ln_sA, ln_sQ, ln_sL, ln_sD, gI_sR, gI_sA, gI_sQ, gI_sL, gI_sD, gR_sI, gR_sA, gR_sQ, gR_sL, gR_sD, gA_sI, gA_sR, gA_sQ, gA_sL, gA_sD, gQ_sI, gQ_sR, gQ_sA, gQ_sL, gQ_sD, gL_sI, gL_sR, gL_sA, gL_sQ, gL_sD]; assumption) | simp [kd_sI, kd_sR, kd_sA, kd_sQ, kd_sL, kd_sD, ln_sI, ln_sR, ln_sA, ln_sQ, ln_sL, ln_sD, gI_sR, gI_sA, gI_sQ, gI_sL, gI_sD, gR_sI, gR_sA, gR_sQ, gR_sL, gR_sD, gA_sI, gA_sR, gA_sQ, gA_sL, gA_sD, gQ_sI, gQ_sR, gQ_sA, gQ_sL, gQ_sD, gL_sI, gL_sR, gL_sA, gL_sQ, gL_sD, kd_nO, kd_nA, *]) (by first | decide | assumption) (by first | assumption | exact gI_sIs | exact gR_sRs | with_reducible rfl | (simp only [kd_sI, kd_sR, kd_sA, kd_sQ, kd_sL, kd_sD, ln_sI, ln_sR, ln_sA, ln_sQ, ln_sL, ln_sD, gI_sR, gI_sA, gI_sQ, gI_sL, gI_sD, gR_sI, gR_sA, gR_sQ, gR_sL, gR_sD, gA_sI, gA_sR, gA_sQ, gA_sL, gA_sD, gQ_sI, gQ_sR, gQ_sA, gQ_sL, gQ_sD, gL_sI, gL_sR, gL_sA, gL_sQ, gL_sD]; first | done | assumption | with_reducible rfl) | rfl) (by first | with_reducible rfl | assumption | (simp only [nI_add, pk_mul, nI_1]; with_reducible rfl)) (by first | assumption | omega) (by first | assumption | omega) (by first | assumption | exact gI_sIs | exact gR_sRs | with_reducible rfl | (simp only [kd_sI, kd_sR, kd_sA, kd_sQ, kd_sL, kd_sD, ln_sI, ln_sR, ln_sA, ln_sQ, ln_sL, ln_sD, gI_sR, gI_sA, gI_sQ, gI_sL, gI_sD, gR_sI, gR_sA, gR_sQ, gR_sL, gR_sD, gA_sI, gA_sR, gA_sQ, gA_sL, gA_sD, gQ_sI, gQ_sR, gQ_sA, gQ_sL, gQ_sD, gL_sI, gL_sR, gL_sA, gL_sQ, gL_sD]; first | done | assumption | with_reducible rfl) | rfl) ?_
                        refine r_iload_n (i := 3) dX3_fewestDrums_169 rfl rfl ?_
                        refine r_icmp_le (tgt := 176) dX3_fewestDrums_170 (by decide) (fun h170 => ?_) (fun h170 => ?_)
                        · refine r_aload_n (i := 0) dX3_fewestDrums_176 rfl rfl ?_
                          refine r_getR dX3_fewestDrums_177 fR_X3_44 (by first | assumption | (simp only [kd_sI, kd_sR, kd_sA, kd_sQ, kd_sL, kd_sD, ln_sI, ln_sR, ln_sA, ln_sQ, ln_sL, ln_sD, gI_sR, gI_sA, gI_sQ, gI_sL, gI_sD, gR_sI, gR_sA, gR_sQ, gR_sL, gR_sD, gA_sI, gA_sR, gA_sQ, gA_sL, gA_sD, gQ_sI, gQ_sR, gQ_sA, gQ_sL, gQ_sD, gL_sI, gL_sR, gL_sA, gL_sQ, gL_sD]; assumption) | simp [kd_sI, kd_sR, kd_sA, kd_sQ, kd_sL, kd_sD, ln_sI, ln_sR, ln_sA, ln_sQ, ln_sL, ln_sD, gI_sR, gI_sA, gI_sQ, gI_sL, gI_sD, gR_sI, gR_sA, gR_sQ, gR_sL, gR_sD, gA_sI, gA_sR, gA_sQ, gA_sL, gA_sD, gQ_sI, gQ_sR, gQ_sA, gQ_sL, gQ_sD, gL_sI, gL_sR, gL_sA, gL_sQ, gL_sD, kd_nO, kd_nA, *]) (by first | assumption | exact gI_sIs | exact gR_sRs | with_reducible rfl | (simp only [kd_sI, kd_sR, kd_sA, kd_sQ, kd_sL, kd_sD, ln_sI, ln_sR, ln_sA, ln_sQ, ln_sL, ln_sD, gI_sR, gI_sA, gI_sQ, gI_sL, gI_sD, gR_sI, gR_sA, gR_sQ, gR_sL, gR_sD, gA_sI, gA_sR, gA_sQ, gA_sL, gA_sD, gQ_sI, gQ_sR, gQ_sA, gQ_sL, gQ_sD, gL_sI, gL_sR, gL_sA, gL_sQ, gL_sD]; first | done | assumption | with_reducible rfl) | rfl) ?_
                          refine r_iload dX3_fewestDrums_180 rfl ?_
                          refine r_iald dX3_fewestDrums_182 (by first | assumption | (simp only [kd_sI, kd_sR, kd_sA, kd_sQ, kd_sL, kd_sD, ln_sI, ln_sR, ln_sA, ln_sQ, ln_sL, ln_sD, gI_sR, gI_sA, gI_sQ, gI_sL, gI_sD, gR_sI, gR_sA, gR_sQ, gR_sL, gR_sD, gA_sI, gA_sR, gA_sQ, gA_sL, gA_sD, gQ_sI, gQ_sR, gQ_sA, gQ_sL, gQ_sD, gL_sI, gL_sR, gL_sA, gL_sQ, gL_sD]; assumption) | simp [kd_sI, kd_sR, kd_sA, kd_sQ, kd_sL, kd_sD, ln_sI, ln_sR, ln_sA, ln_sQ, ln_sL, ln_sD, gI_sR, gI_sA, gI_sQ, gI_sL, gI_sD, gR_sI, gR_sA, gR_sQ, gR_sL, gR_sD, gA_sI, gA_sR, gA_sQ, gA_sL, gA_sD, gQ_sI, gQ_sR, gQ_sA, gQ_sL, gQ_sD, gL_sI, gL_sR, gL_sA, gL_sQ, gL_sD, kd_nO, kd_nA, *]) (by first | decide | assumption) (by first | assumption | exact gI_sIs | exact gR_sRs | with_reducible rfl | (simp only [kd_sI, kd_sR, kd_sA, kd_sQ, kd_sL, kd_sD, ln_sI, ln_sR, ln_sA, ln_sQ, ln_sL, ln_sD, gI_sR, gI_sA, gI_sQ, gI_sL, gI_sD, gR_sI, gR_sA, gR_sQ, gR_sL, gR_sD, gA_sI, gA_sR, gA_sQ, gA_sL, gA_sD, gQ_sI, gQ_sR, gQ_sA, gQ_sL, gQ_sD, gL_sI, gL_sR, gL_sA, gL_sQ, gL_sD]; first | done | assumption | with_reducible rfl) | rfl) (by first | with_reducible rfl | assumption | (simp only [nI_add, pk_mul, nI_1]; with_reducible rfl)) (by first | assumption | omega) (by first | assumption | omega) (by first | assumption | exact gI_sIs | exact gR_sRs | with_reducible rfl | (simp only [kd_sI, kd_sR, kd_sA, kd_sQ, kd_sL, kd_sD, ln_sI, ln_sR, ln_sA, ln_sQ, ln_sL, ln_sD, gI_sR, gI_sA, gI_sQ, gI_sL, gI_sD, gR_sI, gR_sA, gR_sQ, gR_sL, gR_sD, gA_sI, gA_sR, gA_sQ, gA_sL, gA_sD, gQ_sI, gQ_sR, gQ_sA, gQ_sL, gQ_sD, gL_sI, gL_sR, gL_sA, gL_sQ, gL_sD]; first | done | assumption | with_reducible rfl) | rfl) ?_
                          refine r_istore dX3_fewestDrums_183 (Nat.le_of_ble_eq_true rfl) (by simp only [lset]; rfl) ?_
                          refine r_aload_n (i := 0) dX3_fewestDrums_185 rfl rfl ?_
                          refine r_getR dX3_fewestDrums_186 fR_X3_47 (by first | assumption | (simp only [kd_sI, kd_sR, kd_sA, kd_sQ, kd_sL, kd_sD, ln_sI, ln_sR, ln_sA, ln_sQ, ln_sL, ln_sD, gI_sR, gI_sA, gI_sQ, gI_sL, gI_sD, gR_sI, gR_sA, gR_sQ, gR_sL, gR_sD, gA_sI, gA_sR, gA_sQ, gA_sL, gA_sD, gQ_sI, gQ_sR, gQ_sA, gQ_sL, gQ_sD, gL_sI, gL_sR, gL_sA, gL_sQ, gL_sD]; assumption) | simp [kd_sI, kd_sR, kd_sA, kd_sQ, kd_sL, kd_sD, ln_sI, ln_sR, ln_sA, ln_sQ, ln_sL, ln_sD, gI_sR, gI_sA, gI_sQ, gI_sL, gI_sD, gR_sI, gR_sA, gR_sQ, gR_sL, gR_sD, gA_sI, gA_sR, gA_sQ, gA_sL, gA_sD, gQ_sI, gQ_sR, gQ_sA, gQ_sL, gQ_sD, gL_sI, gL_sR, gL_sA, gL_sQ, gL_sD, kd_nO, kd_nA, *]) (by first | assumption | exact gI_sIs | exact gR_sRs | with_reducible rfl | (simp only [kd_sI, kd_sR, kd_sA, kd_sQ, kd_sL, kd_sD, ln_sI, ln_sR, ln_sA, ln_sQ, ln_sL, ln_sD, gI_sR, gI_sA, gI_sQ, gI_sL, gI_sD, gR_sI, gR_sA, gR_sQ, gR_sL, gR_sD, gA_sI, gA_sR, gA_sQ, gA_sL, gA_sD, gQ_sI, gQ_sR, gQ_sA, gQ_sL, gQ_sD, gL_sI, gL_sR, gL_sA, gL_sQ, gL_sD]; first | done | assumption | with_reducible rfl) | rfl) ?_
                          refine r_iload dX3_fewestDrums_189 rfl ?_
                          refine r_iald dX3_fewestDrums_191 (by first | assumption | (simp only [kd_sI, kd_sR, kd_sA, kd_sQ, kd_sL, kd_sD, ln_sI, ln_sR, ln_sA, ln_sQ, ln_sL, ln_sD, gI_sR, gI_sA, gI_sQ, gI_sL, gI_sD, gR_sI, gR_sA, gR_sQ, gR_sL, gR_sD, gA_sI, gA_sR, gA_sQ, gA_sL, gA_sD, gQ_sI, gQ_sR, gQ_sA, gQ_sL, gQ_sD, gL_sI, gL_sR, gL_sA, gL_sQ, gL_sD]; assumption) | simp [kd_sI, kd_sR, kd_sA, kd_sQ, kd_sL, kd_sD, ln_sI, ln_sR, ln_sA, ln_sQ, ln_sL, ln_sD, gI_sR, gI_sA, gI_sQ, gI_sL, gI_sD, gR_sI, gR_sA, gR_sQ, gR_sL, gR_sD, gA_sI, gA_sR, gA_sQ, gA_sL, gA_sD, gQ_sI, gQ_sR, gQ_sA, gQ_sL, gQ_sD, gL_sI, gL_sR, gL_sA, gL_sQ, gL_sD, kd_nO, kd_nA, *]) (by first | decide | assumption) (by first | assumption | exact gI_sIs | exact gR_sRs | with_reducible rfl | (simp only [kd_sI, kd_sR, kd_sA, kd_sQ, kd_sL, kd_sD, ln_sI, ln_sR, ln_sA, ln_sQ, ln_sL, ln_sD, gI_sR, gI_sA, gI_sQ, gI_sL, gI_sD, gR_sI, gR_sA, gR_sQ, gR_sL, gR_sD, gA_sI, gA_sR, gA_sQ, gA_sL, gA_sD, gQ_sI, gQ_sR, gQ_sA, gQ_sL, gQ_sD, gL_sI, gL_sR, gL_sA, gL_sQ, gL_sD]; first | done | assumption | with_reducible rfl) | rfl) (by first | with_reducible rfl | assumption | (simp only [nI_add, pk_mul, nI_1]; with_reducible rfl)) (by first | assumption | omega) (by first | assumption | omega) (by first | assumption | exact gI_sIs | exact gR_sRs | with_reducible rfl | (simp only [kd_sI, kd_sR, kd_sA, kd_sQ, kd_sL, kd_sD, ln_sI, ln_sR, ln_sA, ln_sQ, ln_sL, ln_sD, gI_sR, gI_sA, gI_sQ, gI_sL, gI_sD, gR_sI, gR_sA, gR_sQ, gR_sL, gR_sD, gA_sI, gA_sR, gA_sQ, gA_sL, gA_sD, gQ_sI, gQ_sR, gQ_sA, gQ_sL, gQ_sD, gL_sI, gL_sR, gL_sA, gL_sQ, gL_sD]; first | done | assumption | with_reducible rfl) | rfl) ?_
                          refine r_aload_n (i := 0) dX3_fewestDrums_192 rfl rfl ?_
                          refine r_getR dX3_fewestDrums_193 fR_X3_38 (by first | assumption | (simp only [kd_sI, kd_sR, kd_sA, kd_sQ, kd_sL, kd_sD, ln_sI, ln_sR, ln_sA, ln_sQ, ln_sL, ln_sD, gI_sR, gI_sA, gI_sQ, gI_sL, gI_sD, gR_sI, gR_sA, gR_sQ, gR_sL, gR_sD, gA_sI, gA_sR, gA_sQ, gA_sL, gA_sD, gQ_sI, gQ_sR, gQ_sA, gQ_sL, gQ_sD, gL_sI, gL_sR, gL_sA, gL_sQ, gL_sD]; assumption) | simp [kd_sI, kd_sR, kd_sA, kd_sQ, kd_sL, kd_sD, ln_sI, ln_sR, ln_sA, ln_sQ, ln_sL, ln_sD, gI_sR, gI_sA, gI_sQ, gI_sL, gI_sD, gR_sI, gR_sA, gR_sQ, gR_sL, gR_sD, gA_sI, gA_sR, gA_sQ, gA_sL, gA_sD, gQ_sI, gQ_sR, gQ_sA, gQ_sL, gQ_sD, gL_sI, gL_sR, gL_sA, gL_sQ, gL_sD, kd_nO, kd_nA, *]) (by first | assumption | exact gI_sIs | exact gR_sRs | with_reducible rfl | (simp only [kd_sI, kd_sR, kd_sA, kd_sQ, kd_sL, kd_sD, ln_sI, ln_sR, ln_sA, ln_sQ, ln_sL, ln_sD, gI_sR, gI_sA, gI_sQ, gI_sL, gI_sD, gR_sI, gR_sA, gR_sQ, gR_sL, gR_sD, gA_sI, gA_sR, gA_sQ, gA_sL, gA_sD, gQ_sI, gQ_sR, gQ_sA, gQ_sL, gQ_sD, gL_sI, gL_sR, gL_sA, gL_sQ, gL_sD]; first | done | assumption | with_reducible rfl) | rfl) ?_
                          refine r_iload dX3_fewestDrums_196 rfl ?_
                          refine r_iald dX3_fewestDrums_198 (by first | assumption | (simp only [kd_sI, kd_sR, kd_sA, kd_sQ, kd_sL, kd_sD, ln_sI, ln_sR, ln_sA, ln_sQ, ln_sL, ln_sD, gI_sR, gI_sA, gI_sQ, gI_sL, gI_sD, gR_sI, gR_sA, gR_sQ, gR_sL, gR_sD, gA_sI, gA_sR, gA_sQ, gA_sL, gA_sD, gQ_sI, gQ_sR, gQ_sA, gQ_sL, gQ_sD, gL_sI, gL_sR, gL_sA, gL_sQ, gL_sD]; assumption) | simp [kd_sI, kd_sR, kd_sA, kd_sQ, kd_sL, kd_sD, ln_sI, ln_sR, ln_sA, ln_sQ, ln_sL, ln_sD, gI_sR, gI_sA, gI_sQ, gI_sL, gI_sD, gR_sI, gR_sA, gR_sQ, gR_sL, gR_sD, gA_sI, gA_sR, gA_sQ, gA_sL, gA_sD, gQ_sI, gQ_sR, gQ_sA, gQ_sL, gQ_sD, gL_sI, gL_sR, gL_sA, gL_sQ, gL_sD, kd_nO, kd_nA, *]) (by first | decide | assumption) (by first | assumption | exact gI_sIs | exact gR_sRs | with_reducible rfl | (simp only [kd_sI, kd_sR, kd_sA, kd_sQ, kd_sL, kd_sD, ln_sI, ln_sR, ln_sA, ln_sQ, ln_sL, ln_sD, gI_sR, gI_sA, gI_sQ, gI_sL, gI_sD, gR_sI, gR_sA, gR_sQ, gR_sL, gR_sD, gA_sI, gA_sR, gA_sQ, gA_sL, gA_sD, gQ_sI, gQ_sR, gQ_sA, gQ_sL, gQ_sD, gL_sI, gL_sR, gL_sA, gL_sQ, gL_sD]; first | done | assumption | with_reducible rfl) | rfl) (by first | with_reducible rfl | assumption | (simp only [nI_add, pk_mul, nI_1]; with_reducible rfl)) (by first | assumption | omega) (by first | assumption | omega) (by first | assumption | exact gI_sIs | exact gR_sRs | with_reducible rfl | (simp only [kd_sI, kd_sR, kd_sA, kd_sQ, kd_sL, kd_sD, ln_sI, ln_sR, ln_sA, ln_sQ, ln_sL, ln_sD, gI_sR, gI_sA, gI_sQ, gI_sL, gI_sD, gR_sI, gR_sA, gR_sQ, gR_sL, gR_sD, gA_sI, gA_sR, gA_sQ, gA_sL, gA_sD, gQ_sI, gQ_sR, gQ_sA, gQ_sL, gQ_sD, gL_sI, gL_sR, gL_sA, gL_sQ, gL_sD]; first | done | assumption | with_reducible rfl) | rfl) ?_
                          refine r_iadd dX3_fewestDrums_199 ?_
                          refine r_istore dX3_fewestDrums_200 (Nat.le_of_ble_eq_true rfl) (by simp only [lset]; rfl) ?_
                          rw [nI_add]
                          refine r_iload dX3_fewestDrums_202 rfl ?_
                          refine r_aload_n (i := 0) dX3_fewestDrums_204 rfl rfl ?_
                          refine r_getR dX3_fewestDrums_205 fR_X3_41 (by first | assumption | (simp only [kd_sI, kd_sR, kd_sA, kd_sQ, kd_sL, kd_sD, ln_sI, ln_sR, ln_sA, ln_sQ, ln_sL, ln_sD, gI_sR, gI_sA, gI_sQ, gI_sL, gI_sD, gR_sI, gR_sA, gR_sQ, gR_sL, gR_sD, gA_sI, gA_sR, gA_sQ, gA_sL, gA_sD, gQ_sI, gQ_sR, gQ_sA, gQ_sL, gQ_sD, gL_sI, gL_sR, gL_sA, gL_sQ, gL_sD]; assumption) | simp [kd_sI, kd_sR, kd_sA, kd_sQ, kd_sL, kd_sD, ln_sI, ln_sR, ln_sA, ln_sQ, ln_sL, ln_sD, gI_sR, gI_sA, gI_sQ, gI_sL, gI_sD, gR_sI, gR_sA, gR_sQ, gR_sL, gR_sD, gA_sI, gA_sR, gA_sQ, gA_sL, gA_sD, gQ_sI, gQ_sR, gQ_sA, gQ_sL, gQ_sD, gL_sI, gL_sR, gL_sA, gL_sQ, gL_sD, kd_nO, kd_nA, *]) (by first | assumption | exact gI_sIs | exact gR_sRs | with_reducible rfl | (simp only [kd_sI, kd_sR, kd_sA, kd_sQ, kd_sL, kd_sD, ln_sI, ln_sR, ln_sA, ln_sQ, ln_sL, ln_sD, gI_sR, gI_sA, gI_sQ, gI_sL, gI_sD, gR_sI, gR_sA, gR_sQ, gR_sL, gR_sD, gA_sI, gA_sR, gA_sQ, gA_sL, gA_sD, gQ_sI, gQ_sR, gQ_sA, gQ_sL, gQ_sD, gL_sI, gL_sR, gL_sA, gL_sQ, gL_sD]; first | done | assumption | with_reducible rfl) | rfl) ?_
                          refine r_iload dX3_fewestDrums_208 rfl ?_
                          refine r_iconst (v := nI 1) dX3_fewestDrums_210 (by decide) ?_
                          refine r_isub dX3_fewestDrums_211 ?_
                          rw [pk_sub (by omega), Nat.add_sub_cancel]
                          refine r_iald dX3_fewestDrums_212 (by first | assumption | (simp only [kd_sI, kd_sR, kd_sA, kd_sQ, kd_sL, kd_sD, ln_sI, ln_sR, ln_sA, ln_sQ, ln_sL, ln_sD, gI_sR, gI_sA, gI_sQ, gI_sL, gI_sD, gR_sI, gR_sA, gR_sQ, gR_sL, gR_sD, gA_sI, gA_sR, gA_sQ, gA_sL, gA_sD, gQ_sI, gQ_sR, gQ_sA, gQ_sL, gQ_sD, gL_sI, gL_sR, gL_sA, gL_sQ, gL_sD]; assumption) | simp [kd_sI, kd_sR, kd_sA, kd_sQ, kd_sL, kd_sD, ln_sI, ln_sR, ln_sA, ln_sQ, ln_sL, ln_sD, gI_sR, gI_sA, gI_sQ, gI_sL, gI_sD, gR_sI, gR_sA, gR_sQ, gR_sL, gR_sD, gA_sI, gA_sR, gA_sQ, gA_sL, gA_sD, gQ_sI, gQ_sR, gQ_sA, gQ_sL, gQ_sD, gL_sI, gL_sR, gL_sA, gL_sQ, gL_sD, kd_nO, kd_nA, *]) (by first | decide | assumption) (by first | assumption | exact gI_sIs | exact gR_sRs | with_reducible rfl | (simp only [kd_sI, kd_sR, kd_sA, kd_sQ, kd_sL, kd_sD, ln_sI, ln_sR, ln_sA, ln_sQ, ln_sL, ln_sD, gI_sR, gI_sA, gI_sQ, gI_sL, gI_sD, gR_sI, gR_sA, gR_sQ, gR_sL, gR_sD, gA_sI, gA_sR, gA_sQ, gA_sL, gA_sD, gQ_sI, gQ_sR, gQ_sA, gQ_sL, gQ_sD, gL_sI, gL_sR, gL_sA, gL_sQ, gL_sD]; first | done | assumption | with_reducible rfl) | rfl) (by first | with_reducible rfl | assumption | (simp only [nI_add, pk_mul, nI_1]; with_reducible rfl)) (by first | assumption | omega) (by first | assumption | omega) (by first | assumption | exact gI_sIs | exact gR_sRs | with_reducible rfl | (simp only [kd_sI, kd_sR, kd_sA, kd_sQ, kd_sL, kd_sD, ln_sI, ln_sR, ln_sA, ln_sQ, ln_sL, ln_sD, gI_sR, gI_sA, gI_sQ, gI_sL, gI_sD, gR_sI, gR_sA, gR_sQ, gR_sL, gR_sD, gA_sI, gA_sR, gA_sQ, gA_sL, gA_sD, gQ_sI, gQ_sR, gQ_sA, gQ_sL, gQ_sD, gL_sI, gL_sR, gL_sA, gL_sQ, gL_sD]; first | done | assumption | with_reducible rfl) | rfl) ?_
                          refine r_icmp_le (tgt := 228) dX3_fewestDrums_213 (by decide) (fun h213 => ?_) (fun h213 => ?_)
                          · have hle := (nI_leI (by omega) (by omega)).mp h213
                            rw [if_pos hle] at nx
                            refine r_iload dX3_fewestDrums_228 rfl ?_
                            refine r_iload_n (i := 3) dX3_fewestDrums_230 rfl rfl ?_
                            refine r_icmp_gt (tgt := 252) dX3_fewestDrums_231 (by decide) (fun h231 => ?_) (fun h231 => ?_)
                            · exact absurd h231 (Int32.not_lt.mpr (nI_le (show v / 10000 + 1 ≤ R by omega) (by omega)))
                            · refine r_iload dX3_fewestDrums_234 rfl ?_
                              refine r_aload_n (i := 0) dX3_fewestDrums_236 rfl rfl ?_
                              refine r_getR dX3_fewestDrums_237 fR_X3_41 (by first | assumption | (simp only [kd_sI, kd_sR, kd_sA, kd_sQ, kd_sL, kd_sD, ln_sI, ln_sR, ln_sA, ln_sQ, ln_sL, ln_sD, gI_sR, gI_sA, gI_sQ, gI_sL, gI_sD, gR_sI, gR_sA, gR_sQ, gR_sL, gR_sD, gA_sI, gA_sR, gA_sQ, gA_sL, gA_sD, gQ_sI, gQ_sR, gQ_sA, gQ_sL, gQ_sD, gL_sI, gL_sR, gL_sA, gL_sQ, gL_sD]; assumption) | simp [kd_sI, kd_sR, kd_sA, kd_sQ, kd_sL, kd_sD, ln_sI, ln_sR, ln_sA, ln_sQ, ln_sL, ln_sD, gI_sR, gI_sA, gI_sQ, gI_sL, gI_sD, gR_sI, gR_sA, gR_sQ, gR_sL, gR_sD, gA_sI, gA_sR, gA_sQ, gA_sL, gA_sD, gQ_sI, gQ_sR, gQ_sA, gQ_sL, gQ_sD, gL_sI, gL_sR, gL_sA, gL_sQ, gL_sD, kd_nO, kd_nA, *]) (by first | assumption | exact gI_sIs | exact gR_sRs | with_reducible rfl | (simp only [kd_sI, kd_sR, kd_sA, kd_sQ, kd_sL, kd_sD, ln_sI, ln_sR, ln_sA, ln_sQ, ln_sL, ln_sD, gI_sR, gI_sA, gI_sQ, gI_sL, gI_sD, gR_sI, gR_sA, gR_sQ, gR_sL, gR_sD, gA_sI, gA_sR, gA_sQ, gA_sL, gA_sD, gQ_sI, gQ_sR, gQ_sA, gQ_sL, gQ_sD, gL_sI, gL_sR, gL_sA, gL_sQ, gL_sD]; first | done | assumption | with_reducible rfl) | rfl) ?_
                              refine r_iload dX3_fewestDrums_240 rfl ?_
                              refine r_iconst (v := nI 1) dX3_fewestDrums_242 (by decide) ?_
                              refine r_isub dX3_fewestDrums_243 ?_
                              rw [pk_sub (by omega), Nat.add_sub_cancel]
                              refine r_iald dX3_fewestDrums_244 (by first | assumption | (simp only [kd_sI, kd_sR, kd_sA, kd_sQ, kd_sL, kd_sD, ln_sI, ln_sR, ln_sA, ln_sQ, ln_sL, ln_sD, gI_sR, gI_sA, gI_sQ, gI_sL, gI_sD, gR_sI, gR_sA, gR_sQ, gR_sL, gR_sD, gA_sI, gA_sR, gA_sQ, gA_sL, gA_sD, gQ_sI, gQ_sR, gQ_sA, gQ_sL, gQ_sD, gL_sI, gL_sR, gL_sA, gL_sQ, gL_sD]; assumption) | simp [kd_sI, kd_sR, kd_sA, kd_sQ, kd_sL, kd_sD, ln_sI, ln_sR, ln_sA, ln_sQ, ln_sL, ln_sD, gI_sR, gI_sA, gI_sQ, gI_sL, gI_sD, gR_sI, gR_sA, gR_sQ, gR_sL, gR_sD, gA_sI, gA_sR, gA_sQ, gA_sL, gA_sD, gQ_sI, gQ_sR, gQ_sA, gQ_sL, gQ_sD, gL_sI, gL_sR, gL_sA, gL_sQ, gL_sD, kd_nO, kd_nA, *]) (by first | decide | assumption) (by first | assumption | exact gI_sIs | exact gR_sRs | with_reducible rfl | (simp only [kd_sI, kd_sR, kd_sA, kd_sQ, kd_sL, kd_sD, ln_sI, ln_sR, ln_sA, ln_sQ, ln_sL, ln_sD, gI_sR, gI_sA, gI_sQ, gI_sL, gI_sD, gR_sI, gR_sA, gR_sQ, gR_sL, gR_sD, gA_sI, gA_sR, gA_sQ, gA_sL, gA_sD, gQ_sI, gQ_sR, gQ_sA, gQ_sL, gQ_sD, gL_sI, gL_sR, gL_sA, gL_sQ, gL_sD]; first | done | assumption | with_reducible rfl) | rfl) (by first | with_reducible rfl | assumption | (simp only [nI_add, pk_mul, nI_1]; with_reducible rfl)) (by first | assumption | omega) (by first | assumption | omega) (by first | assumption | exact gI_sIs | exact gR_sRs | with_reducible rfl | (simp only [kd_sI, kd_sR, kd_sA, kd_sQ, kd_sL, kd_sD, ln_sI, ln_sR, ln_sA, ln_sQ, ln_sL, ln_sD, gI_sR, gI_sA, gI_sQ, gI_sL, gI_sD, gR_sI, gR_sA, gR_sQ, gR_sL, gR_sD, gA_sI, gA_sR, gA_sQ, gA_sL, gA_sD, gQ_sI, gQ_sR, gQ_sA, gQ_sL, gQ_sD, gL_sI, gL_sR, gL_sA, gL_sQ, gL_sD]; first | done | assumption | with_reducible rfl) | rfl) ?_
                              refine r_icmp_gt (tgt := 252) dX3_fewestDrums_245 (by decide) (fun h245 => ?_) (fun h245 => ?_)
                              · exact absurd h245 (Int32.not_lt.mpr (nI_le hle (by omega)))
                              · refine r_iconst (v := nI 1) dX3_fewestDrums_248 (by decide) ?_
                                refine r_goto (tgt := 253) dX3_fewestDrums_249 (by decide) ?_
                                refine r_istore dX3_fewestDrums_253 (Nat.le_of_ble_eq_true rfl) (by simp only [lset]; rfl) ?_
                                refine r_iload dX3_fewestDrums_255 rfl ?_
                                refine r_if_eq (tgt := 314) dX3_fewestDrums_257 (by decide) (fun h257 => ?_) (fun h257 => ?_)
                                · exact absurd h257 (by decide)
                                · exact put _ _ _ hvd (by omega) nx
                          · have hle : ¬ v % 10000 + len ≤ rs.getD (v / 10000) 0 := fun q => h213 (nI_le q (by omega))
                            rw [if_neg hle] at nx
                            refine r_iinc dX3_fewestDrums_216 rfl (by first | exact nI_1 _ | rfl) (by simp only [lset]; rfl) ?_
                            refine r_aload_n (i := 0) dX3_fewestDrums_219 rfl rfl ?_
                            refine r_getR dX3_fewestDrums_220 fR_X3_38 (by first | assumption | (simp only [kd_sI, kd_sR, kd_sA, kd_sQ, kd_sL, kd_sD, ln_sI, ln_sR, ln_sA, ln_sQ, ln_sL, ln_sD, gI_sR, gI_sA, gI_sQ, gI_sL, gI_sD, gR_sI, gR_sA, gR_sQ, gR_sL, gR_sD, gA_sI, gA_sR, gA_sQ, gA_sL, gA_sD, gQ_sI, gQ_sR, gQ_sA, gQ_sL, gQ_sD, gL_sI, gL_sR, gL_sA, gL_sQ, gL_sD]; assumption) | simp [kd_sI, kd_sR, kd_sA, kd_sQ, kd_sL, kd_sD, ln_sI, ln_sR, ln_sA, ln_sQ, ln_sL, ln_sD, gI_sR, gI_sA, gI_sQ, gI_sL, gI_sD, gR_sI, gR_sA, gR_sQ, gR_sL, gR_sD, gA_sI, gA_sR, gA_sQ, gA_sL, gA_sD, gQ_sI, gQ_sR, gQ_sA, gQ_sL, gQ_sD, gL_sI, gL_sR, gL_sA, gL_sQ, gL_sD, kd_nO, kd_nA, *]) (by first | assumption | exact gI_sIs | exact gR_sRs | with_reducible rfl | (simp only [kd_sI, kd_sR, kd_sA, kd_sQ, kd_sL, kd_sD, ln_sI, ln_sR, ln_sA, ln_sQ, ln_sL, ln_sD, gI_sR, gI_sA, gI_sQ, gI_sL, gI_sD, gR_sI, gR_sA, gR_sQ, gR_sL, gR_sD, gA_sI, gA_sR, gA_sQ, gA_sL, gA_sD, gQ_sI, gQ_sR, gQ_sA, gQ_sL, gQ_sD, gL_sI, gL_sR, gL_sA, gL_sQ, gL_sD]; first | done | assumption | with_reducible rfl) | rfl) ?_
                            refine r_iload dX3_fewestDrums_223 rfl ?_
                            refine r_iald dX3_fewestDrums_225 (by first | assumption | (simp only [kd_sI, kd_sR, kd_sA, kd_sQ, kd_sL, kd_sD, ln_sI, ln_sR, ln_sA, ln_sQ, ln_sL, ln_sD, gI_sR, gI_sA, gI_sQ, gI_sL, gI_sD, gR_sI, gR_sA, gR_sQ, gR_sL, gR_sD, gA_sI, gA_sR, gA_sQ, gA_sL, gA_sD, gQ_sI, gQ_sR, gQ_sA, gQ_sL, gQ_sD, gL_sI, gL_sR, gL_sA, gL_sQ, gL_sD]; assumption) | simp [kd_sI, kd_sR, kd_sA, kd_sQ, kd_sL, kd_sD, ln_sI, ln_sR, ln_sA, ln_sQ, ln_sL, ln_sD, gI_sR, gI_sA, gI_sQ, gI_sL, gI_sD, gR_sI, gR_sA, gR_sQ, gR_sL, gR_sD, gA_sI, gA_sR, gA_sQ, gA_sL, gA_sD, gQ_sI, gQ_sR, gQ_sA, gQ_sL, gQ_sD, gL_sI, gL_sR, gL_sA, gL_sQ, gL_sD, kd_nO, kd_nA, *]) (by first | decide | assumption) (by first | assumption | exact gI_sIs | exact gR_sRs | with_reducible rfl | (simp only [kd_sI, kd_sR, kd_sA, kd_sQ, kd_sL, kd_sD, ln_sI, ln_sR, ln_sA, ln_sQ, ln_sL, ln_sD, gI_sR, gI_sA, gI_sQ, gI_sL, gI_sD, gR_sI, gR_sA, gR_sQ, gR_sL, gR_sD, gA_sI, gA_sR, gA_sQ, gA_sL, gA_sD, gQ_sI, gQ_sR, gQ_sA, gQ_sL, gQ_sD, gL_sI, gL_sR, gL_sA, gL_sQ, gL_sD]; first | done | assumption | with_reducible rfl) | rfl) (by first | with_reducible rfl | assumption | (simp only [nI_add, pk_mul, nI_1]; with_reducible rfl)) (by first | assumption | omega) (by first | assumption | omega) (by first | assumption | exact gI_sIs | exact gR_sRs | with_reducible rfl | (simp only [kd_sI, kd_sR, kd_sA, kd_sQ, kd_sL, kd_sD, ln_sI, ln_sR, ln_sA, ln_sQ, ln_sL, ln_sD, gI_sR, gI_sA, gI_sQ, gI_sL, gI_sD, gR_sI, gR_sA, gR_sQ, gR_sL, gR_sD, gA_sI, gA_sR, gA_sQ, gA_sL, gA_sD, gQ_sI, gQ_sR, gQ_sA, gQ_sL, gQ_sD, gL_sI, gL_sR, gL_sA, gL_sQ, gL_sD]; first | done | assumption | with_reducible rfl) | rfl) ?_
                            refine r_istore dX3_fewestDrums_226 (Nat.le_of_ble_eq_true rfl) (by simp only [lset]; rfl) ?_
                            refine r_iload dX3_fewestDrums_228 rfl ?_
                            refine r_iload_n (i := 3) dX3_fewestDrums_230 rfl rfl ?_
                            refine r_icmp_gt (tgt := 252) dX3_fewestDrums_231 (by decide) (fun h231 => ?_) (fun h231 => ?_)
                            · have h1 := (nI_ltI (by omega) (by omega)).mp h231
                              rw [if_neg (by omega)] at nx
                              refine r_iconst (v := nI 0) dX3_fewestDrums_252 (by decide) ?_
                              refine r_istore dX3_fewestDrums_253 (Nat.le_of_ble_eq_true rfl) (by simp only [lset]; rfl) ?_
                              refine r_iload dX3_fewestDrums_255 rfl ?_
                              refine r_if_eq (tgt := 314) dX3_fewestDrums_257 (by decide) (fun h257 => ?_) (fun h257 => ?_)
                              · exact skip _ _ _ _ nx
                              · exact absurd rfl h257
                            · have h1 : ¬ R < v / 10000 + 1 + 1 := fun q => h231 (nI_lt q (by omega))
                              have r2 := a85 (v / 10000 + 1) (by omega)
                              have hrd2 : rs.getD (v / 10000 + 1) 0 < 1000 := hrlt _ (getD_mem (by omega))
                              refine r_iload dX3_fewestDrums_234 rfl ?_
                              refine r_aload_n (i := 0) dX3_fewestDrums_236 rfl rfl ?_
                              refine r_getR dX3_fewestDrums_237 fR_X3_41 (by first | assumption | (simp only [kd_sI, kd_sR, kd_sA, kd_sQ, kd_sL, kd_sD, ln_sI, ln_sR, ln_sA, ln_sQ, ln_sL, ln_sD, gI_sR, gI_sA, gI_sQ, gI_sL, gI_sD, gR_sI, gR_sA, gR_sQ, gR_sL, gR_sD, gA_sI, gA_sR, gA_sQ, gA_sL, gA_sD, gQ_sI, gQ_sR, gQ_sA, gQ_sL, gQ_sD, gL_sI, gL_sR, gL_sA, gL_sQ, gL_sD]; assumption) | simp [kd_sI, kd_sR, kd_sA, kd_sQ, kd_sL, kd_sD, ln_sI, ln_sR, ln_sA, ln_sQ, ln_sL, ln_sD, gI_sR, gI_sA, gI_sQ, gI_sL, gI_sD, gR_sI, gR_sA, gR_sQ, gR_sL, gR_sD, gA_sI, gA_sR, gA_sQ, gA_sL, gA_sD, gQ_sI, gQ_sR, gQ_sA, gQ_sL, gQ_sD, gL_sI, gL_sR, gL_sA, gL_sQ, gL_sD, kd_nO, kd_nA, *]) (by first | assumption | exact gI_sIs | exact gR_sRs | with_reducible rfl | (simp only [kd_sI, kd_sR, kd_sA, kd_sQ, kd_sL, kd_sD, ln_sI, ln_sR, ln_sA, ln_sQ, ln_sL, ln_sD, gI_sR, gI_sA, gI_sQ, gI_sL, gI_sD, gR_sI, gR_sA, gR_sQ, gR_sL, gR_sD, gA_sI, gA_sR, gA_sQ, gA_sL, gA_sD, gQ_sI, gQ_sR, gQ_sA, gQ_sL, gQ_sD, gL_sI, gL_sR, gL_sA, gL_sQ, gL_sD]; first | done | assumption | with_reducible rfl) | rfl) ?_
                              refine r_iload dX3_fewestDrums_240 rfl ?_
                              refine r_iconst (v := nI 1) dX3_fewestDrums_242 (by decide) ?_
                              refine r_isub dX3_fewestDrums_243 ?_
                              rw [pk_sub (by omega), Nat.add_sub_cancel]
                              refine r_iald dX3_fewestDrums_244 (by first | assumption | (simp only [kd_sI, kd_sR, kd_sA, kd_sQ, kd_sL, kd_sD, ln_sI, ln_sR, ln_sA, ln_sQ, ln_sL, ln_sD, gI_sR, gI_sA, gI_sQ, gI_sL, gI_sD, gR_sI, gR_sA, gR_sQ, gR_sL, gR_sD, gA_sI, gA_sR, gA_sQ, gA_sL, gA_sD, gQ_sI, gQ_sR, gQ_sA, gQ_sL, gQ_sD, gL_sI, gL_sR, gL_sA, gL_sQ, gL_sD]; assumption) | simp [kd_sI, kd_sR, kd_sA, kd_sQ, kd_sL, kd_sD, ln_sI, ln_sR, ln_sA, ln_sQ, ln_sL, ln_sD, gI_sR, gI_sA, gI_sQ, gI_sL, gI_sD, gR_sI, gR_sA, gR_sQ, gR_sL, gR_sD, gA_sI, gA_sR, gA_sQ, gA_sL, gA_sD, gQ_sI, gQ_sR, gQ_sA, gQ_sL, gQ_sD, gL_sI, gL_sR, gL_sA, gL_sQ, gL_sD, kd_nO, kd_nA, *]) (by first | decide | assumption) (by first | assumption | exact gI_sIs | exact gR_sRs | with_reducible rfl | (simp only [kd_sI, kd_sR, kd_sA, kd_sQ, kd_sL, kd_sD, ln_sI, ln_sR, ln_sA, ln_sQ, ln_sL, ln_sD, gI_sR, gI_sA, gI_sQ, gI_sL, gI_sD, gR_sI, gR_sA, gR_sQ, gR_sL, gR_sD, gA_sI, gA_sR, gA_sQ, gA_sL, gA_sD, gQ_sI, gQ_sR, gQ_sA, gQ_sL, gQ_sD, gL_sI, gL_sR, gL_sA, gL_sQ, gL_sD]; first | done | assumption | with_reducible rfl) | rfl) (by first | with_reducible rfl | assumption | (simp only [nI_add, pk_mul, nI_1]; with_reducible rfl)) (by first | assumption | omega) (by first | assumption | omega) (by first | assumption | exact gI_sIs | exact gR_sRs | with_reducible rfl | (simp only [kd_sI, kd_sR, kd_sA, kd_sQ, kd_sL, kd_sD, ln_sI, ln_sR, ln_sA, ln_sQ, ln_sL, ln_sD, gI_sR, gI_sA, gI_sQ, gI_sL, gI_sD, gR_sI, gR_sA, gR_sQ, gR_sL, gR_sD, gA_sI, gA_sR, gA_sQ, gA_sL, gA_sD, gQ_sI, gQ_sR, gQ_sA, gQ_sL, gQ_sD, gL_sI, gL_sR, gL_sA, gL_sQ, gL_sD]; first | done | assumption | with_reducible rfl) | rfl) ?_
                              refine r_icmp_gt (tgt := 252) dX3_fewestDrums_245 (by decide) (fun h245 => ?_) (fun h245 => ?_)
                              · have h2 := (nI_ltI (by omega) (by omega)).mp h245
                                rw [if_neg (by omega)] at nx
                                refine r_iconst (v := nI 0) dX3_fewestDrums_252 (by decide) ?_
                                refine r_istore dX3_fewestDrums_253 (Nat.le_of_ble_eq_true rfl) (by simp only [lset]; rfl) ?_
                                refine r_iload dX3_fewestDrums_255 rfl ?_
                                refine r_if_eq (tgt := 314) dX3_fewestDrums_257 (by decide) (fun h257 => ?_) (fun h257 => ?_)
                                · exact skip _ _ _ _ nx
                                · exact absurd rfl h257
                              · have h2 : ¬ rs.getD (v / 10000 + 1) 0 < len := fun q => h245 (nI_lt q (by omega))
                                rw [if_pos (by omega)] at nx
                                refine r_iconst (v := nI 1) dX3_fewestDrums_248 (by decide) ?_
                                refine r_goto (tgt := 253) dX3_fewestDrums_249 (by decide) ?_
                                refine r_istore dX3_fewestDrums_253 (Nat.le_of_ble_eq_true rfl) (by simp only [lset]; rfl) ?_
                                refine r_iload dX3_fewestDrums_255 rfl ?_
                                refine r_if_eq (tgt := 314) dX3_fewestDrums_257 (by decide) (fun h257 => ?_) (fun h257 => ?_)
                                · exact absurd h257 (by decide)
                                · exact put _ _ _ (by omega) (by omega) nx
                        · exact absurd (nI_le (show v / 10000 + 1 ≤ R by omega) (by omega)) h170
                    · have b1 := hEl.2 hvR
                      rw [if_neg (by omega)] at nx
                      refine r_iload dX3_fewestDrums_155 rfl ?_
                      refine r_iload dX3_fewestDrums_157 rfl ?_
                      refine r_icmp_gt (tgt := 314) dX3_fewestDrums_159 (by decide) (fun h159 => ?_) (fun h159 => ?_)
                      · exact absurd h159 (Int32.not_lt.mpr (nI_le (by omega) (by omega)))
                      · refine r_aload_n (i := 0) dX3_fewestDrums_162 rfl rfl ?_
                        refine r_getR dX3_fewestDrums_163 fR_X3_44 (by first | assumption | (simp only [kd_sI, kd_sR, kd_sA, kd_sQ, kd_sL, kd_sD, ln_sI, ln_sR, ln_sA, ln_sQ, ln_sL, ln_sD, gI_sR, gI_sA, gI_sQ, gI_sL, gI_sD, gR_sI, gR_sA, gR_sQ, gR_sL, gR_sD, gA_sI, gA_sR, gA_sQ, gA_sL, gA_sD, gQ_sI, gQ_sR, gQ_sA, gQ_sL, gQ_sD, gL_sI, gL_sR, gL_sA, gL_sQ, gL_sD]; assumption) | simp [kd_sI, kd_sR, kd_sA, kd_sQ, kd_sL, kd_sD, ln_sI, ln_sR, ln_sA, ln_sQ, ln_sL, ln_sD, gI_sR, gI_sA, gI_sQ, gI_sL, gI_sD, gR_sI, gR_sA, gR_sQ, gR_sL, gR_sD, gA_sI, gA_sR, gA_sQ, gA_sL, gA_sD, gQ_sI, gQ_sR, gQ_sA, gQ_sL, gQ_sD, gL_sI, gL_sR, gL_sA, gL_sQ, gL_sD, kd_nO, kd_nA, *]) (by first | assumption | exact gI_sIs | exact gR_sRs | with_reducible rfl | (simp only [kd_sI, kd_sR, kd_sA, kd_sQ, kd_sL, kd_sD, ln_sI, ln_sR, ln_sA, ln_sQ, ln_sL, ln_sD, gI_sR, gI_sA, gI_sQ, gI_sL, gI_sD, gR_sI, gR_sA, gR_sQ, gR_sL, gR_sD, gA_sI, gA_sR, gA_sQ, gA_sL, gA_sD, gQ_sI, gQ_sR, gQ_sA, gQ_sL, gQ_sD, gL_sI, gL_sR, gL_sA, gL_sQ, gL_sD]; first | done | assumption | with_reducible rfl) | rfl) ?_
                        refine r_iload dX3_fewestDrums_166 rfl ?_
                        refine r_iald dX3_fewestDrums_168 (by first | assumption | (simp only [kd_sI, kd_sR, kd_sA, kd_sQ, kd_sL, kd_sD, ln_sI, ln_sR, ln_sA, ln_sQ, ln_sL, ln_sD, gI_sR, gI_sA, gI_sQ, gI_sL, gI_sD, gR_sI, gR_sA, gR_sQ, gR_sL, gR_sD, gA_sI, gA_sR, gA_sQ, gA_sL, gA_sD, gQ_sI, gQ_sR, gQ_sA, gQ_sL, gQ_sD, gL_sI, gL_sR, gL_sA, gL_sQ, gL_sD]; assumption) | simp [kd_sI, kd_sR, kd_sA, kd_sQ, kd_sL, kd_sD, ln_sI, ln_sR, ln_sA, ln_sQ, ln_sL, ln_sD, gI_sR, gI_sA, gI_sQ, gI_sL, gI_sD, gR_sI, gR_sA, gR_sQ, gR_sL, gR_sD, gA_sI, gA_sR, gA_sQ, gA_sL, gA_sD, gQ_sI, gQ_sR, gQ_sA, gQ_sL, gQ_sD, gL_sI, gL_sR, gL_sA, gL_sQ, gL_sD, kd_nO, kd_nA, *]) (by first | decide | assumption) (by first | assumption | exact gI_sIs | exact gR_sRs | with_reducible rfl | (simp only [kd_sI, kd_sR, kd_sA, kd_sQ, kd_sL, kd_sD, ln_sI, ln_sR, ln_sA, ln_sQ, ln_sL, ln_sD, gI_sR, gI_sA, gI_sQ, gI_sL, gI_sD, gR_sI, gR_sA, gR_sQ, gR_sL, gR_sD, gA_sI, gA_sR, gA_sQ, gA_sL, gA_sD, gQ_sI, gQ_sR, gQ_sA, gQ_sL, gQ_sD, gL_sI, gL_sR, gL_sA, gL_sQ, gL_sD]; first | done | assumption | with_reducible rfl) | rfl) (by first | with_reducible rfl | assumption | (simp only [nI_add, pk_mul, nI_1]; with_reducible rfl)) (by first | assumption | omega) (by first | assumption | omega) (by first | assumption | exact gI_sIs | exact gR_sRs | with_reducible rfl | (simp only [kd_sI, kd_sR, kd_sA, kd_sQ, kd_sL, kd_sD, ln_sI, ln_sR, ln_sA, ln_sQ, ln_sL, ln_sD, gI_sR, gI_sA, gI_sQ, gI_sL, gI_sD, gR_sI, gR_sA, gR_sQ, gR_sL, gR_sD, gA_sI, gA_sR, gA_sQ, gA_sL, gA_sD, gQ_sI, gQ_sR, gQ_sA, gQ_sL, gQ_sD, gL_sI, gL_sR, gL_sA, gL_sQ, gL_sD]; first | done | assumption | with_reducible rfl) | rfl) ?_
                        refine r_iload_n (i := 3) dX3_fewestDrums_169 rfl rfl ?_
                        refine r_icmp_le (tgt := 176) dX3_fewestDrums_170 (by decide) (fun h170 => ?_) (fun h170 => ?_)
                        · exact absurd h170 (nI_ge (by omega) (by omega))
                        · refine r_goto (tgt := 314) dX3_fewestDrums_173 (by decide) ?_
                          refine r_iinc dX3_fewestDrums_314 rfl (by first | exact nI_1 _ | rfl) (by simp only [lset]; rfl) ?_
                          refine r_goto (tgt := 140) dX3_fewestDrums_317 (by decide) ?_
                          refine nx H2 _ _ _ _ hU2 hE2 ?_
                          rw [Nat.min_eq_left hwR]
                          exact hE3
            refine inner n 0 _ _ _ _ _ (by omega) (hU1.sA (f := 86) (Or.inl (by decide)) (by decide) (by decide)) ?_ ?_
            · intro i hi
              have := hE i hi
              unfold EncD
              rw [gA_sAs, upd_n (by omega), gA_sA, if_neg (by omega)]
              exact this
            · unfold minK
              rw [← hR]
              refine ⟨fun hh => absurd hh (by omega), fun _ => ?_⟩
              rw [gA_sAs, upd_s]
      obtain ⟨e86a_b, e86b_b, e86c_b⟩ : gR Hb 86 m = some (ma 86) ∧ kd Hb (ma 86) = 1086 ∧ ln Hb (ma 86) = 4096 := hMb.2 86 (by decide)
      obtain ⟨e87a_b, e87b_b, e87c_b⟩ : gR Hb 87 m = some (ma 87) ∧ kd Hb (ma 87) = 1087 ∧ ln Hb (ma 87) = 4096 := hMb.2 87 (by decide)
      refine r_aload_n (i := 0) dX3_fewestDrums_103 rfl rfl ?_
      refine r_getR dX3_fewestDrums_104 fR_X3_44 (by first | assumption | (simp only [kd_sI, kd_sR, kd_sA, kd_sQ, kd_sL, kd_sD, ln_sI, ln_sR, ln_sA, ln_sQ, ln_sL, ln_sD, gI_sR, gI_sA, gI_sQ, gI_sL, gI_sD, gR_sI, gR_sA, gR_sQ, gR_sL, gR_sD, gA_sI, gA_sR, gA_sQ, gA_sL, gA_sD, gQ_sI, gQ_sR, gQ_sA, gQ_sL, gQ_sD, gL_sI, gL_sR, gL_sA, gL_sQ, gL_sD]; assumption) | simp [kd_sI, kd_sR, kd_sA, kd_sQ, kd_sL, kd_sD, ln_sI, ln_sR, ln_sA, ln_sQ, ln_sL, ln_sD, gI_sR, gI_sA, gI_sQ, gI_sL, gI_sD, gR_sI, gR_sA, gR_sQ, gR_sL, gR_sD, gA_sI, gA_sR, gA_sQ, gA_sL, gA_sD, gQ_sI, gQ_sR, gQ_sA, gQ_sL, gQ_sD, gL_sI, gL_sR, gL_sA, gL_sQ, gL_sD, kd_nO, kd_nA, *]) (by first | assumption | exact gI_sIs | exact gR_sRs | with_reducible rfl | (simp only [kd_sI, kd_sR, kd_sA, kd_sQ, kd_sL, kd_sD, ln_sI, ln_sR, ln_sA, ln_sQ, ln_sL, ln_sD, gI_sR, gI_sA, gI_sQ, gI_sL, gI_sD, gR_sI, gR_sA, gR_sQ, gR_sL, gR_sD, gA_sI, gA_sR, gA_sQ, gA_sL, gA_sD, gQ_sI, gQ_sR, gQ_sA, gQ_sL, gQ_sD, gL_sI, gL_sR, gL_sA, gL_sQ, gL_sD]; first | done | assumption | with_reducible rfl) | rfl) ?_
      refine r_iconst (v := nI 0) dX3_fewestDrums_107 (by decide) ?_
      refine r_iconst (v := nI 1) dX3_fewestDrums_108 (by decide) ?_
      refine r_iast dX3_fewestDrums_109 (by first | assumption | (simp only [kd_sI, kd_sR, kd_sA, kd_sQ, kd_sL, kd_sD, ln_sI, ln_sR, ln_sA, ln_sQ, ln_sL, ln_sD, gI_sR, gI_sA, gI_sQ, gI_sL, gI_sD, gR_sI, gR_sA, gR_sQ, gR_sL, gR_sD, gA_sI, gA_sR, gA_sQ, gA_sL, gA_sD, gQ_sI, gQ_sR, gQ_sA, gQ_sL, gQ_sD, gL_sI, gL_sR, gL_sA, gL_sQ, gL_sD]; assumption) | simp [kd_sI, kd_sR, kd_sA, kd_sQ, kd_sL, kd_sD, ln_sI, ln_sR, ln_sA, ln_sQ, ln_sL, ln_sD, gI_sR, gI_sA, gI_sQ, gI_sL, gI_sD, gR_sI, gR_sA, gR_sQ, gR_sL, gR_sD, gA_sI, gA_sR, gA_sQ, gA_sL, gA_sD, gQ_sI, gQ_sR, gQ_sA, gQ_sL, gQ_sD, gL_sI, gL_sR, gL_sA, gL_sQ, gL_sD, kd_nO, kd_nA, *]) (by first | decide | assumption) (by first | assumption | exact gI_sIs | exact gR_sRs | with_reducible rfl | (simp only [kd_sI, kd_sR, kd_sA, kd_sQ, kd_sL, kd_sD, ln_sI, ln_sR, ln_sA, ln_sQ, ln_sL, ln_sD, gI_sR, gI_sA, gI_sQ, gI_sL, gI_sD, gR_sI, gR_sA, gR_sQ, gR_sL, gR_sD, gA_sI, gA_sR, gA_sQ, gA_sL, gA_sD, gQ_sI, gQ_sR, gQ_sA, gQ_sL, gQ_sD, gL_sI, gL_sR, gL_sA, gL_sQ, gL_sD]; first | done | assumption | with_reducible rfl) | rfl) (by first | with_reducible rfl | assumption | (simp only [nI_add, pk_mul, nI_1]; with_reducible rfl)) (by first | assumption | omega) (by first | assumption | omega) ?_
      refine r_aload_n (i := 0) dX3_fewestDrums_110 rfl rfl ?_
      refine r_getR dX3_fewestDrums_111 fR_X3_47 (by first | assumption | (simp only [kd_sI, kd_sR, kd_sA, kd_sQ, kd_sL, kd_sD, ln_sI, ln_sR, ln_sA, ln_sQ, ln_sL, ln_sD, gI_sR, gI_sA, gI_sQ, gI_sL, gI_sD, gR_sI, gR_sA, gR_sQ, gR_sL, gR_sD, gA_sI, gA_sR, gA_sQ, gA_sL, gA_sD, gQ_sI, gQ_sR, gQ_sA, gQ_sL, gQ_sD, gL_sI, gL_sR, gL_sA, gL_sQ, gL_sD]; assumption) | simp [kd_sI, kd_sR, kd_sA, kd_sQ, kd_sL, kd_sD, ln_sI, ln_sR, ln_sA, ln_sQ, ln_sL, ln_sD, gI_sR, gI_sA, gI_sQ, gI_sL, gI_sD, gR_sI, gR_sA, gR_sQ, gR_sL, gR_sD, gA_sI, gA_sR, gA_sQ, gA_sL, gA_sD, gQ_sI, gQ_sR, gQ_sA, gQ_sL, gQ_sD, gL_sI, gL_sR, gL_sA, gL_sQ, gL_sD, kd_nO, kd_nA, *]) (by first | assumption | exact gI_sIs | exact gR_sRs | with_reducible rfl | (simp only [kd_sI, kd_sR, kd_sA, kd_sQ, kd_sL, kd_sD, ln_sI, ln_sR, ln_sA, ln_sQ, ln_sL, ln_sD, gI_sR, gI_sA, gI_sQ, gI_sL, gI_sD, gR_sI, gR_sA, gR_sQ, gR_sL, gR_sD, gA_sI, gA_sR, gA_sQ, gA_sL, gA_sD, gQ_sI, gQ_sR, gQ_sA, gQ_sL, gQ_sD, gL_sI, gL_sR, gL_sA, gL_sQ, gL_sD]; first | done | assumption | with_reducible rfl) | rfl) ?_
      refine r_iconst (v := nI 0) dX3_fewestDrums_114 (by decide) ?_
      refine r_iconst (v := nI 0) dX3_fewestDrums_115 (by decide) ?_
      refine r_iast dX3_fewestDrums_116 (by first | assumption | (simp only [kd_sI, kd_sR, kd_sA, kd_sQ, kd_sL, kd_sD, ln_sI, ln_sR, ln_sA, ln_sQ, ln_sL, ln_sD, gI_sR, gI_sA, gI_sQ, gI_sL, gI_sD, gR_sI, gR_sA, gR_sQ, gR_sL, gR_sD, gA_sI, gA_sR, gA_sQ, gA_sL, gA_sD, gQ_sI, gQ_sR, gQ_sA, gQ_sL, gQ_sD, gL_sI, gL_sR, gL_sA, gL_sQ, gL_sD]; assumption) | simp [kd_sI, kd_sR, kd_sA, kd_sQ, kd_sL, kd_sD, ln_sI, ln_sR, ln_sA, ln_sQ, ln_sL, ln_sD, gI_sR, gI_sA, gI_sQ, gI_sL, gI_sD, gR_sI, gR_sA, gR_sQ, gR_sL, gR_sD, gA_sI, gA_sR, gA_sQ, gA_sL, gA_sD, gQ_sI, gQ_sR, gQ_sA, gQ_sL, gQ_sD, gL_sI, gL_sR, gL_sA, gL_sQ, gL_sD, kd_nO, kd_nA, *]) (by first | decide | assumption) (by first | assumption | exact gI_sIs | exact gR_sRs | with_reducible rfl | (simp only [kd_sI, kd_sR, kd_sA, kd_sQ, kd_sL, kd_sD, ln_sI, ln_sR, ln_sA, ln_sQ, ln_sL, ln_sD, gI_sR, gI_sA, gI_sQ, gI_sL, gI_sD, gR_sI, gR_sA, gR_sQ, gR_sL, gR_sD, gA_sI, gA_sR, gA_sQ, gA_sL, gA_sD, gQ_sI, gQ_sR, gQ_sA, gQ_sL, gQ_sD, gL_sI, gL_sR, gL_sA, gL_sQ, gL_sD]; first | done | assumption | with_reducible rfl) | rfl) (by first | with_reducible rfl | assumption | (simp only [nI_add, pk_mul, nI_1]; with_reducible rfl)) (by first | assumption | omega) (by first | assumption | omega) ?_
      refine r_iconst (v := nI 1) dX3_fewestDrums_117 (by decide) ?_
      refine r_istore dX3_fewestDrums_118 (Nat.le_of_ble_eq_true rfl) (by simp only [lset]; rfl) ?_
      refine outer (2 ^ n - 1) 0 _ _ _ _ _ _ (by omega) ((MU.rf.sA (f := 86) (Or.inl (by decide)) (by decide) (by decide)).sA (f := 87) (Or.inl (by decide)) (by decide) (by decide)) ?_
      intro i hi
      have hi0 : i = 0 := by omega
      subst hi0
      refine ⟨fun _ => ⟨?_, ?_⟩, fun hh => absurd (show 0 < 10000 * R by omega) hh⟩
      · rw [gA_sA, if_neg (by omega), gA_sAs, upd_s, show leastT ns rs 0 0 = 0 by simp [leastT]]
      · rw [gA_sAs, upd_s, show leastT ns rs 0 0 = 0 by simp [leastT]]
    have hU1 : MU m ma [77, 84, 85, 86, 87] H (sI H 77 m (nI 0)) := MU.rf.sI (by decide) (by decide) (by decide)
    have h771 : gI (sI H 77 m (nI 0)) 77 m = nI 0 := gI_sIs
    refine r_iconst (v := nI 0) dX3_fewestDrums_9 (by decide) ?_
    refine r_goto (tgt := 14) dX3_fewestDrums_10 (by decide) ?_
    refine r_putI dX3_fewestDrums_14 fG_X3_66 (fun _ => by first | rfl | contradiction) (by first | assumption | (simp only [kd_sI, kd_sR, kd_sA, kd_sQ, kd_sL, kd_sD, ln_sI, ln_sR, ln_sA, ln_sQ, ln_sL, ln_sD, gI_sR, gI_sA, gI_sQ, gI_sL, gI_sD, gR_sI, gR_sA, gR_sQ, gR_sL, gR_sD, gA_sI, gA_sR, gA_sQ, gA_sL, gA_sD, gQ_sI, gQ_sR, gQ_sA, gQ_sL, gQ_sD, gL_sI, gL_sR, gL_sA, gL_sQ, gL_sD]; assumption) | simp [kd_sI, kd_sR, kd_sA, kd_sQ, kd_sL, kd_sD, ln_sI, ln_sR, ln_sA, ln_sQ, ln_sL, ln_sD, gI_sR, gI_sA, gI_sQ, gI_sL, gI_sD, gR_sI, gR_sA, gR_sQ, gR_sL, gR_sD, gA_sI, gA_sR, gA_sQ, gA_sL, gA_sD, gQ_sI, gQ_sR, gQ_sA, gQ_sL, gQ_sD, gL_sI, gL_sR, gL_sA, gL_sQ, gL_sD, kd_nO, kd_nA, *]) (by first | rfl | assumption) (by first | rfl | assumption) ?_
    refine r_aload_n (i := 0) dX3_fewestDrums_17 rfl rfl ?_
    refine r_getI dX3_fewestDrums_18 fR_X3_66 (by first | assumption | (simp only [kd_sI, kd_sR, kd_sA, kd_sQ, kd_sL, kd_sD, ln_sI, ln_sR, ln_sA, ln_sQ, ln_sL, ln_sD, gI_sR, gI_sA, gI_sQ, gI_sL, gI_sD, gR_sI, gR_sA, gR_sQ, gR_sL, gR_sD, gA_sI, gA_sR, gA_sQ, gA_sL, gA_sD, gQ_sI, gQ_sR, gQ_sA, gQ_sL, gQ_sD, gL_sI, gL_sR, gL_sA, gL_sQ, gL_sD]; assumption) | simp [kd_sI, kd_sR, kd_sA, kd_sQ, kd_sL, kd_sD, ln_sI, ln_sR, ln_sA, ln_sQ, ln_sL, ln_sD, gI_sR, gI_sA, gI_sQ, gI_sL, gI_sD, gR_sI, gR_sA, gR_sQ, gR_sL, gR_sD, gA_sI, gA_sR, gA_sQ, gA_sL, gA_sD, gQ_sI, gQ_sR, gQ_sA, gQ_sL, gQ_sD, gL_sI, gL_sR, gL_sA, gL_sQ, gL_sD, kd_nO, kd_nA, *]) (by first | assumption | exact gI_sIs | exact gR_sRs | with_reducible rfl | (simp only [kd_sI, kd_sR, kd_sA, kd_sQ, kd_sL, kd_sD, ln_sI, ln_sR, ln_sA, ln_sQ, ln_sL, ln_sD, gI_sR, gI_sA, gI_sQ, gI_sL, gI_sD, gR_sI, gR_sA, gR_sQ, gR_sL, gR_sD, gA_sI, gA_sR, gA_sQ, gA_sL, gA_sD, gQ_sI, gQ_sR, gQ_sA, gQ_sL, gQ_sD, gL_sI, gL_sR, gL_sA, gL_sQ, gL_sD]; first | done | assumption | with_reducible rfl) | rfl) ?_
    refine r_if_le (tgt := 26) dX3_fewestDrums_21 (by decide) (fun h21 => ?_) (fun h21 => ?_)
    · refine r_iconst (v := nI 0) dX3_fewestDrums_26 (by decide) ?_
      refine r_istore_n (i := 2) dX3_fewestDrums_27 rfl (Nat.le_of_ble_eq_true rfl) (by simp only [lset]; rfl) ?_
      refine r_iconst (v := nI 0) dX3_fewestDrums_28 (by decide) ?_
      refine r_istore_n (i := 3) dX3_fewestDrums_29 rfl (Nat.le_of_ble_eq_true rfl) (by simp only [lset]; rfl) ?_
      have loop : ∀ (k i : Nat) (H1 : AH), i + k = C → MU m ma [84] (sI H 77 m (nI 0)) H1 → ArrR H1 1084 (ma 84) (needsF g y i) → AW mX3_fewestDrums G d Qr Qx 0 0 H1 30 [some (vR (some m)), some (vI y), some (vI (nI (needsF g y i).length)), some (vI (nI i)), none, none, none, none, none, none] [] := by
        intro k
        induction k with
        | zero =>
          intro i H1 hi hU2 hA
          have hU12 : MU m ma [77, 84, 85, 86, 87] H H1 := (hU1.tr hU2).sub (by decide)
          have hM1 := hM.mf hU12.1
          have e01 := hM1.1
          have hg1 : gA H1 1068 (ma 68) = g := by rw [hg]; exact congrFun (hU12.g68 (by decide)) _
          obtain ⟨e68a_1, e68b_1, e68c_1⟩ : gR H1 68 m = some (ma 68) ∧ kd H1 (ma 68) = 1068 ∧ ln H1 (ma 68) = 385 := hM1.2 68 (by decide)
          rw [show i = C by omega, ← hns] at hA ⊢
          refine r_iload_n (i := 3) dX3_fewestDrums_30 rfl rfl ?_
          refine r_aload_n (i := 0) dX3_fewestDrums_31 rfl rfl ?_
          refine r_getR dX3_fewestDrums_32 fR_X3_7 (by first | assumption | (simp only [kd_sI, kd_sR, kd_sA, kd_sQ, kd_sL, kd_sD, ln_sI, ln_sR, ln_sA, ln_sQ, ln_sL, ln_sD, gI_sR, gI_sA, gI_sQ, gI_sL, gI_sD, gR_sI, gR_sA, gR_sQ, gR_sL, gR_sD, gA_sI, gA_sR, gA_sQ, gA_sL, gA_sD, gQ_sI, gQ_sR, gQ_sA, gQ_sL, gQ_sD, gL_sI, gL_sR, gL_sA, gL_sQ, gL_sD]; assumption) | simp [kd_sI, kd_sR, kd_sA, kd_sQ, kd_sL, kd_sD, ln_sI, ln_sR, ln_sA, ln_sQ, ln_sL, ln_sD, gI_sR, gI_sA, gI_sQ, gI_sL, gI_sD, gR_sI, gR_sA, gR_sQ, gR_sL, gR_sD, gA_sI, gA_sR, gA_sQ, gA_sL, gA_sD, gQ_sI, gQ_sR, gQ_sA, gQ_sL, gQ_sD, gL_sI, gL_sR, gL_sA, gL_sQ, gL_sD, kd_nO, kd_nA, *]) (by first | assumption | exact gI_sIs | exact gR_sRs | with_reducible rfl | (simp only [kd_sI, kd_sR, kd_sA, kd_sQ, kd_sL, kd_sD, ln_sI, ln_sR, ln_sA, ln_sQ, ln_sL, ln_sD, gI_sR, gI_sA, gI_sQ, gI_sL, gI_sD, gR_sI, gR_sA, gR_sQ, gR_sL, gR_sD, gA_sI, gA_sR, gA_sQ, gA_sL, gA_sD, gQ_sI, gQ_sR, gQ_sA, gQ_sL, gQ_sD, gL_sI, gL_sR, gL_sA, gL_sQ, gL_sD]; first | done | assumption | with_reducible rfl) | rfl) ?_
          refine r_bipush (v := nI 101) dX3_fewestDrums_35 (by decide) ?_
          refine r_iald dX3_fewestDrums_37 (by first | assumption | (simp only [kd_sI, kd_sR, kd_sA, kd_sQ, kd_sL, kd_sD, ln_sI, ln_sR, ln_sA, ln_sQ, ln_sL, ln_sD, gI_sR, gI_sA, gI_sQ, gI_sL, gI_sD, gR_sI, gR_sA, gR_sQ, gR_sL, gR_sD, gA_sI, gA_sR, gA_sQ, gA_sL, gA_sD, gQ_sI, gQ_sR, gQ_sA, gQ_sL, gQ_sD, gL_sI, gL_sR, gL_sA, gL_sQ, gL_sD]; assumption) | simp [kd_sI, kd_sR, kd_sA, kd_sQ, kd_sL, kd_sD, ln_sI, ln_sR, ln_sA, ln_sQ, ln_sL, ln_sD, gI_sR, gI_sA, gI_sQ, gI_sL, gI_sD, gR_sI, gR_sA, gR_sQ, gR_sL, gR_sD, gA_sI, gA_sR, gA_sQ, gA_sL, gA_sD, gQ_sI, gQ_sR, gQ_sA, gQ_sL, gQ_sD, gL_sI, gL_sR, gL_sA, gL_sQ, gL_sD, kd_nO, kd_nA, *]) (by first | decide | assumption) (by first | assumption | exact gI_sIs | exact gR_sRs | with_reducible rfl | (simp only [kd_sI, kd_sR, kd_sA, kd_sQ, kd_sL, kd_sD, ln_sI, ln_sR, ln_sA, ln_sQ, ln_sL, ln_sD, gI_sR, gI_sA, gI_sQ, gI_sL, gI_sD, gR_sI, gR_sA, gR_sQ, gR_sL, gR_sD, gA_sI, gA_sR, gA_sQ, gA_sL, gA_sD, gQ_sI, gQ_sR, gQ_sA, gQ_sL, gQ_sD, gL_sI, gL_sR, gL_sA, gL_sQ, gL_sD]; first | done | assumption | with_reducible rfl) | rfl) (by first | with_reducible rfl | assumption | (simp only [nI_add, pk_mul, nI_1]; with_reducible rfl)) (by first | assumption | omega) (by first | assumption | omega) (by first | assumption | exact gI_sIs | exact gR_sRs | with_reducible rfl | (simp only [kd_sI, kd_sR, kd_sA, kd_sQ, kd_sL, kd_sD, ln_sI, ln_sR, ln_sA, ln_sQ, ln_sL, ln_sD, gI_sR, gI_sA, gI_sQ, gI_sL, gI_sD, gR_sI, gR_sA, gR_sQ, gR_sL, gR_sD, gA_sI, gA_sR, gA_sQ, gA_sL, gA_sD, gQ_sI, gQ_sR, gQ_sA, gQ_sL, gQ_sD, gL_sI, gL_sR, gL_sA, gL_sQ, gL_sD]; first | done | assumption | with_reducible rfl) | rfl) ?_
          refine r_icmp_ge (tgt := 81) dX3_fewestDrums_38 (by decide) (fun h38 => ?_) (fun h38 => ?_)
          · refine r_aload_n (i := 0) dX3_fewestDrums_81 rfl rfl ?_
            refine r_iload_n (i := 1) dX3_fewestDrums_82 rfl rfl ?_
            refine r_callV (As := [_]) (mc' := 0) (ms' := 0) dX3_fewestDrums_83 k_X3_215 rfl (by first | assumption | (simp only [kd_sI, kd_sR, kd_sA, kd_sQ, kd_sL, kd_sD, ln_sI, ln_sR, ln_sA, ln_sQ, ln_sL, ln_sD, gI_sR, gI_sA, gI_sQ, gI_sL, gI_sD, gR_sI, gR_sA, gR_sQ, gR_sL, gR_sD, gA_sI, gA_sR, gA_sQ, gA_sL, gA_sD, gQ_sI, gQ_sR, gQ_sA, gQ_sL, gQ_sD, gL_sI, gL_sR, gL_sA, gL_sQ, gL_sD]; assumption) | simp [kd_sI, kd_sR, kd_sA, kd_sQ, kd_sL, kd_sD, ln_sI, ln_sR, ln_sA, ln_sQ, ln_sL, ln_sD, gI_sR, gI_sA, gI_sQ, gI_sL, gI_sD, gR_sI, gR_sA, gR_sQ, gR_sL, gR_sD, gA_sI, gA_sR, gA_sQ, gA_sL, gA_sD, gQ_sI, gQ_sR, gQ_sA, gQ_sL, gQ_sD, gL_sI, gL_sR, gL_sA, gL_sQ, gL_sD, kd_nO, kd_nA, *]) (T := TX3) (N := 27) rfl (by first | assumption | omega) (by first | assumption | omega) (by first | assumption | omega) (Nat.le_of_ble_eq_true rfl) ?_
            refine s_findsRests (by omega) hM1 (by rw [hg1]; exact hB') (by rw [hg1]; exact hD) ?_
            rw [hg1, ← hrs]
            intro H2 hU3 hA2
            have hUb : MU m ma [77, 84, 85, 86, 87] H H2 := (hU12.tr hU3).sub (by decide)
            have hM2 := hM.mf hUb.1
            have e02 := hM2.1
            have h77b : gI H2 77 m = nI 0 := by rw [((hU2.tr hU3).2 77 (by decide)).1]; exact h771
            show AW mX3_fewestDrums G d Qr Qx _ _ H2 86 _ _
            refine r_istore_n (i := 3) dX3_fewestDrums_86 rfl (Nat.le_of_ble_eq_true rfl) (by simp only [lset]; rfl) ?_
            refine r_iload_n (i := 2) dX3_fewestDrums_87 rfl rfl ?_
            refine r_if_ne (tgt := 93) dX3_fewestDrums_88 (by decide) (fun h88 => ?_) (fun h88 => ?_)
            · have hn0 : ns ≠ [] := fun e => h88 (by rw [e]; decide)
              refine r_iload_n (i := 3) dX3_fewestDrums_93 rfl rfl ?_
              refine r_if_ne (tgt := 103) dX3_fewestDrums_94 (by decide) (fun h94 => ?_) (fun h94 => ?_)
              · have hr0 : rs ≠ [] := fun e => h94 (by rw [e]; decide)
                refine dp H2 none _ _ _ _ _ _ hUb h77b ?_ hA2 hn0 hr0
                intro j hj
                rw [show gA H2 1084 = gA H1 1084 from (hU3.2 84 (by decide)).2]
                exact hA j hj
              · have hr0 : rs = [] := by
                  rcases Nat.eq_zero_or_pos rs.length with q | q
                  · exact List.length_eq_zero_iff.mp q
                  · exact absurd h94 (nI_ne0 q (by omega))
                rw [if_neg hn0, if_pos hr0] at hQ
                refine r_aload_n (i := 0) dX3_fewestDrums_97 rfl rfl ?_
                refine r_iconst (v := nI 2) dX3_fewestDrums_98 (by decide) ?_
                refine r_callV (As := [_]) (mc' := 0) (ms' := 0) dX3_fewestDrums_99 k_X3_175 rfl (by first | assumption | (simp only [kd_sI, kd_sR, kd_sA, kd_sQ, kd_sL, kd_sD, ln_sI, ln_sR, ln_sA, ln_sQ, ln_sL, ln_sD, gI_sR, gI_sA, gI_sQ, gI_sL, gI_sD, gR_sI, gR_sA, gR_sQ, gR_sL, gR_sD, gA_sI, gA_sR, gA_sQ, gA_sL, gA_sD, gQ_sI, gQ_sR, gQ_sA, gQ_sL, gQ_sD, gL_sI, gL_sR, gL_sA, gL_sQ, gL_sD]; assumption) | simp [kd_sI, kd_sR, kd_sA, kd_sQ, kd_sL, kd_sD, ln_sI, ln_sR, ln_sA, ln_sQ, ln_sL, ln_sD, gI_sR, gI_sA, gI_sQ, gI_sL, gI_sD, gR_sI, gR_sA, gR_sQ, gR_sL, gR_sD, gA_sI, gA_sR, gA_sQ, gA_sL, gA_sD, gQ_sI, gQ_sR, gQ_sA, gQ_sL, gQ_sD, gL_sI, gL_sR, gL_sA, gL_sQ, gL_sD, kd_nO, kd_nA, *]) (T := TX3) (N := 27) rfl (by first | assumption | omega) (by first | assumption | omega) (by first | assumption | omega) (Nat.le_of_ble_eq_true rfl) ?_
                refine s_fails hM2 ?_
                refine r_ireturn dX3_fewestDrums_102 rfl (by first | rfl | assumption | exact vp_nar_int _ | exact pk_nc _) ?_
                exact hQ _ (hUb.sI (by decide) (by decide) (by decide)) gI_sIs
            · have hn0 : ns = [] := by
                rcases Nat.eq_zero_or_pos ns.length with q | q
                · exact List.length_eq_zero_iff.mp q
                · exact absurd h88 (nI_ne0 q (by omega))
              rw [if_pos hn0] at hQ
              refine r_iconst (v := nI 0) dX3_fewestDrums_91 (by decide) ?_
              refine r_ireturn dX3_fewestDrums_92 rfl (by first | rfl | assumption | exact vp_nar_int _ | exact pk_nc _) ?_
              exact hQ H2 hUb h77b
          · exact absurd (by rw [hg1, hC1]; exact nI_le (by omega) (by omega)) h38
        | succ k ih =>
          intro i H1 hi hU2 hA
          have hU12 : MU m ma [77, 84, 85, 86, 87] H H1 := (hU1.tr hU2).sub (by decide)
          have hM1 := hM.mf hU12.1
          have e01 := hM1.1
          have hg1 : gA H1 1068 (ma 68) = g := by rw [hg]; exact congrFun (hU12.g68 (by decide)) _
          obtain ⟨e68a_1, e68b_1, e68c_1⟩ : gR H1 68 m = some (ma 68) ∧ kd H1 (ma 68) = 1068 ∧ ln H1 (ma 68) = 385 := hM1.2 68 (by decide)
          obtain ⟨e84a_1, e84b_1, e84c_1⟩ : gR H1 84 m = some (ma 84) ∧ kd H1 (ma 84) = 1084 ∧ ln H1 (ma 84) = 12 := hM1.2 84 (by decide)
          have hil := needsF_len (g := g) (y := y) i
          obtain ⟨hq1, hq2⟩ := hN i (by rw [← hC]; omega)
          have nx := fun H2 h1 h2 => ih (i + 1) H2 (by omega) h1 h2
          unfold needsF at nx
          refine r_iload_n (i := 3) dX3_fewestDrums_30 rfl rfl ?_
          refine r_aload_n (i := 0) dX3_fewestDrums_31 rfl rfl ?_
          refine r_getR dX3_fewestDrums_32 fR_X3_7 (by first | assumption | (simp only [kd_sI, kd_sR, kd_sA, kd_sQ, kd_sL, kd_sD, ln_sI, ln_sR, ln_sA, ln_sQ, ln_sL, ln_sD, gI_sR, gI_sA, gI_sQ, gI_sL, gI_sD, gR_sI, gR_sA, gR_sQ, gR_sL, gR_sD, gA_sI, gA_sR, gA_sQ, gA_sL, gA_sD, gQ_sI, gQ_sR, gQ_sA, gQ_sL, gQ_sD, gL_sI, gL_sR, gL_sA, gL_sQ, gL_sD]; assumption) | simp [kd_sI, kd_sR, kd_sA, kd_sQ, kd_sL, kd_sD, ln_sI, ln_sR, ln_sA, ln_sQ, ln_sL, ln_sD, gI_sR, gI_sA, gI_sQ, gI_sL, gI_sD, gR_sI, gR_sA, gR_sQ, gR_sL, gR_sD, gA_sI, gA_sR, gA_sQ, gA_sL, gA_sD, gQ_sI, gQ_sR, gQ_sA, gQ_sL, gQ_sD, gL_sI, gL_sR, gL_sA, gL_sQ, gL_sD, kd_nO, kd_nA, *]) (by first | assumption | exact gI_sIs | exact gR_sRs | with_reducible rfl | (simp only [kd_sI, kd_sR, kd_sA, kd_sQ, kd_sL, kd_sD, ln_sI, ln_sR, ln_sA, ln_sQ, ln_sL, ln_sD, gI_sR, gI_sA, gI_sQ, gI_sL, gI_sD, gR_sI, gR_sA, gR_sQ, gR_sL, gR_sD, gA_sI, gA_sR, gA_sQ, gA_sL, gA_sD, gQ_sI, gQ_sR, gQ_sA, gQ_sL, gQ_sD, gL_sI, gL_sR, gL_sA, gL_sQ, gL_sD]; first | done | assumption | with_reducible rfl) | rfl) ?_
          refine r_bipush (v := nI 101) dX3_fewestDrums_35 (by decide) ?_
          refine r_iald dX3_fewestDrums_37 (by first | assumption | (simp only [kd_sI, kd_sR, kd_sA, kd_sQ, kd_sL, kd_sD, ln_sI, ln_sR, ln_sA, ln_sQ, ln_sL, ln_sD, gI_sR, gI_sA, gI_sQ, gI_sL, gI_sD, gR_sI, gR_sA, gR_sQ, gR_sL, gR_sD, gA_sI, gA_sR, gA_sQ, gA_sL, gA_sD, gQ_sI, gQ_sR, gQ_sA, gQ_sL, gQ_sD, gL_sI, gL_sR, gL_sA, gL_sQ, gL_sD]; assumption) | simp [kd_sI, kd_sR, kd_sA, kd_sQ, kd_sL, kd_sD, ln_sI, ln_sR, ln_sA, ln_sQ, ln_sL, ln_sD, gI_sR, gI_sA, gI_sQ, gI_sL, gI_sD, gR_sI, gR_sA, gR_sQ, gR_sL, gR_sD, gA_sI, gA_sR, gA_sQ, gA_sL, gA_sD, gQ_sI, gQ_sR, gQ_sA, gQ_sL, gQ_sD, gL_sI, gL_sR, gL_sA, gL_sQ, gL_sD, kd_nO, kd_nA, *]) (by first | decide | assumption) (by first | assumption | exact gI_sIs | exact gR_sRs | with_reducible rfl | (simp only [kd_sI, kd_sR, kd_sA, kd_sQ, kd_sL, kd_sD, ln_sI, ln_sR, ln_sA, ln_sQ, ln_sL, ln_sD, gI_sR, gI_sA, gI_sQ, gI_sL, gI_sD, gR_sI, gR_sA, gR_sQ, gR_sL, gR_sD, gA_sI, gA_sR, gA_sQ, gA_sL, gA_sD, gQ_sI, gQ_sR, gQ_sA, gQ_sL, gQ_sD, gL_sI, gL_sR, gL_sA, gL_sQ, gL_sD]; first | done | assumption | with_reducible rfl) | rfl) (by first | with_reducible rfl | assumption | (simp only [nI_add, pk_mul, nI_1]; with_reducible rfl)) (by first | assumption | omega) (by first | assumption | omega) (by first | assumption | exact gI_sIs | exact gR_sRs | with_reducible rfl | (simp only [kd_sI, kd_sR, kd_sA, kd_sQ, kd_sL, kd_sD, ln_sI, ln_sR, ln_sA, ln_sQ, ln_sL, ln_sD, gI_sR, gI_sA, gI_sQ, gI_sL, gI_sD, gR_sI, gR_sA, gR_sQ, gR_sL, gR_sD, gA_sI, gA_sR, gA_sQ, gA_sL, gA_sD, gQ_sI, gQ_sR, gQ_sA, gQ_sL, gQ_sD, gL_sI, gL_sR, gL_sA, gL_sQ, gL_sD]; first | done | assumption | with_reducible rfl) | rfl) ?_
          refine r_icmp_ge (tgt := 81) dX3_fewestDrums_38 (by decide) (fun h38 => ?_) (fun h38 => ?_)
          · exact absurd h38 (by rw [hg1, hC1]; exact nI_ge (by omega) (by omega))
          · refine r_aload_n (i := 0) dX3_fewestDrums_41 rfl rfl ?_
            refine r_iload_n (i := 3) dX3_fewestDrums_42 rfl rfl ?_
            refine r_iconst (v := nI 0) dX3_fewestDrums_43 (by decide) ?_
            refine r_callV (As := [_, _]) (mc' := 0) (ms' := 0) dX3_fewestDrums_44 k_X3_105 rfl (by first | assumption | (simp only [kd_sI, kd_sR, kd_sA, kd_sQ, kd_sL, kd_sD, ln_sI, ln_sR, ln_sA, ln_sQ, ln_sL, ln_sD, gI_sR, gI_sA, gI_sQ, gI_sL, gI_sD, gR_sI, gR_sA, gR_sQ, gR_sL, gR_sD, gA_sI, gA_sR, gA_sQ, gA_sL, gA_sD, gQ_sI, gQ_sR, gQ_sA, gQ_sL, gQ_sD, gL_sI, gL_sR, gL_sA, gL_sQ, gL_sD]; assumption) | simp [kd_sI, kd_sR, kd_sA, kd_sQ, kd_sL, kd_sD, ln_sI, ln_sR, ln_sA, ln_sQ, ln_sL, ln_sD, gI_sR, gI_sA, gI_sQ, gI_sL, gI_sD, gR_sI, gR_sA, gR_sQ, gR_sL, gR_sD, gA_sI, gA_sR, gA_sQ, gA_sL, gA_sD, gQ_sI, gQ_sR, gQ_sA, gQ_sL, gQ_sD, gL_sI, gL_sR, gL_sA, gL_sQ, gL_sD, kd_nO, kd_nA, *]) (T := TX3) (N := 27) rfl (by first | assumption | omega) (by first | assumption | omega) (by first | assumption | omega) (Nat.le_of_ble_eq_true rfl) ?_
            refine s_cableTold (by omega) hM1 (by omega) ?_
            rw [hg1, show 102 + 21 * i + 0 = 102 + 21 * i by omega]
            refine r_iload_n (i := 1) dX3_fewestDrums_47 rfl rfl ?_
            refine r_icmp_ne (tgt := 75) dX3_fewestDrums_48 (by decide) (fun h48 => ?_) (fun h48 => ?_)
            · rw [if_neg (fun q => h48 q.1)] at nx
              simp only [List.append_nil] at nx
              refine r_iinc dX3_fewestDrums_75 rfl (by first | exact nI_1 _ | rfl) (by simp only [lset]; rfl) ?_
              refine r_goto (tgt := 30) dX3_fewestDrums_78 (by decide) ?_
              exact nx H1 hU2 hA
            · refine r_aload_n (i := 0) dX3_fewestDrums_51 rfl rfl ?_
              refine r_iload_n (i := 3) dX3_fewestDrums_52 rfl rfl ?_
              refine r_iconst (v := nI 3) dX3_fewestDrums_53 (by decide) ?_
              refine r_callV (As := [_, _]) (mc' := 0) (ms' := 0) dX3_fewestDrums_54 k_X3_105 rfl (by first | assumption | (simp only [kd_sI, kd_sR, kd_sA, kd_sQ, kd_sL, kd_sD, ln_sI, ln_sR, ln_sA, ln_sQ, ln_sL, ln_sD, gI_sR, gI_sA, gI_sQ, gI_sL, gI_sD, gR_sI, gR_sA, gR_sQ, gR_sL, gR_sD, gA_sI, gA_sR, gA_sQ, gA_sL, gA_sD, gQ_sI, gQ_sR, gQ_sA, gQ_sL, gQ_sD, gL_sI, gL_sR, gL_sA, gL_sQ, gL_sD]; assumption) | simp [kd_sI, kd_sR, kd_sA, kd_sQ, kd_sL, kd_sD, ln_sI, ln_sR, ln_sA, ln_sQ, ln_sL, ln_sD, gI_sR, gI_sA, gI_sQ, gI_sL, gI_sD, gR_sI, gR_sA, gR_sQ, gR_sL, gR_sD, gA_sI, gA_sR, gA_sQ, gA_sL, gA_sD, gQ_sI, gQ_sR, gQ_sA, gQ_sL, gQ_sD, gL_sI, gL_sR, gL_sA, gL_sQ, gL_sD, kd_nO, kd_nA, *]) (T := TX3) (N := 27) rfl (by first | assumption | omega) (by first | assumption | omega) (by first | assumption | omega) (Nat.le_of_ble_eq_true rfl) ?_
              refine s_cableTold (by omega) hM1 (by omega) ?_
              rw [hg1, show 102 + 21 * i + 3 = 105 + 21 * i by omega]
              refine r_iconst (v := nI 1) dX3_fewestDrums_57 (by decide) ?_
              refine r_icmp_ne (tgt := 75) dX3_fewestDrums_58 (by decide) (fun h58 => ?_) (fun h58 => ?_)
              · rw [if_neg (fun q => h58 q.2)] at nx
                simp only [List.append_nil] at nx
                refine r_iinc dX3_fewestDrums_75 rfl (by first | exact nI_1 _ | rfl) (by simp only [lset]; rfl) ?_
                refine r_goto (tgt := 30) dX3_fewestDrums_78 (by decide) ?_
                exact nx H1 hU2 hA
              · rw [if_pos ⟨h48, h58⟩] at nx
                refine r_aload_n (i := 0) dX3_fewestDrums_61 rfl rfl ?_
                refine r_getR dX3_fewestDrums_62 fR_X3_38 (by first | assumption | (simp only [kd_sI, kd_sR, kd_sA, kd_sQ, kd_sL, kd_sD, ln_sI, ln_sR, ln_sA, ln_sQ, ln_sL, ln_sD, gI_sR, gI_sA, gI_sQ, gI_sL, gI_sD, gR_sI, gR_sA, gR_sQ, gR_sL, gR_sD, gA_sI, gA_sR, gA_sQ, gA_sL, gA_sD, gQ_sI, gQ_sR, gQ_sA, gQ_sL, gQ_sD, gL_sI, gL_sR, gL_sA, gL_sQ, gL_sD]; assumption) | simp [kd_sI, kd_sR, kd_sA, kd_sQ, kd_sL, kd_sD, ln_sI, ln_sR, ln_sA, ln_sQ, ln_sL, ln_sD, gI_sR, gI_sA, gI_sQ, gI_sL, gI_sD, gR_sI, gR_sA, gR_sQ, gR_sL, gR_sD, gA_sI, gA_sR, gA_sQ, gA_sL, gA_sD, gQ_sI, gQ_sR, gQ_sA, gQ_sL, gQ_sD, gL_sI, gL_sR, gL_sA, gL_sQ, gL_sD, kd_nO, kd_nA, *]) (by first | assumption | exact gI_sIs | exact gR_sRs | with_reducible rfl | (simp only [kd_sI, kd_sR, kd_sA, kd_sQ, kd_sL, kd_sD, ln_sI, ln_sR, ln_sA, ln_sQ, ln_sL, ln_sD, gI_sR, gI_sA, gI_sQ, gI_sL, gI_sD, gR_sI, gR_sA, gR_sQ, gR_sL, gR_sD, gA_sI, gA_sR, gA_sQ, gA_sL, gA_sD, gQ_sI, gQ_sR, gQ_sA, gQ_sL, gQ_sD, gL_sI, gL_sR, gL_sA, gL_sQ, gL_sD]; first | done | assumption | with_reducible rfl) | rfl) ?_
                refine r_iload_n (i := 2) dX3_fewestDrums_65 rfl rfl ?_
                refine r_aload_n (i := 0) dX3_fewestDrums_66 rfl rfl ?_
                refine r_iload_n (i := 3) dX3_fewestDrums_67 rfl rfl ?_
                refine r_callV (As := [_]) (mc' := 0) (ms' := 0) dX3_fewestDrums_68 k_X3_190 rfl (by first | assumption | (simp only [kd_sI, kd_sR, kd_sA, kd_sQ, kd_sL, kd_sD, ln_sI, ln_sR, ln_sA, ln_sQ, ln_sL, ln_sD, gI_sR, gI_sA, gI_sQ, gI_sL, gI_sD, gR_sI, gR_sA, gR_sQ, gR_sL, gR_sD, gA_sI, gA_sR, gA_sQ, gA_sL, gA_sD, gQ_sI, gQ_sR, gQ_sA, gQ_sL, gQ_sD, gL_sI, gL_sR, gL_sA, gL_sQ, gL_sD]; assumption) | simp [kd_sI, kd_sR, kd_sA, kd_sQ, kd_sL, kd_sD, ln_sI, ln_sR, ln_sA, ln_sQ, ln_sL, ln_sD, gI_sR, gI_sA, gI_sQ, gI_sL, gI_sD, gR_sI, gR_sA, gR_sQ, gR_sL, gR_sD, gA_sI, gA_sR, gA_sQ, gA_sL, gA_sD, gQ_sI, gQ_sR, gQ_sA, gQ_sL, gQ_sD, gL_sI, gL_sR, gL_sA, gL_sQ, gL_sD, kd_nO, kd_nA, *]) (T := TX3) (N := 27) rfl (by first | assumption | omega) (by first | assumption | omega) (by first | assumption | omega) (Nat.le_of_ble_eq_true rfl) ?_
                refine s_needs (by omega) hM1 (by rw [hg1]; exact hB') (by rw [hg1, ← hC]; omega) ?_
                rw [hg1, hq1]
                refine r_iast dX3_fewestDrums_71 (by first | assumption | (simp only [kd_sI, kd_sR, kd_sA, kd_sQ, kd_sL, kd_sD, ln_sI, ln_sR, ln_sA, ln_sQ, ln_sL, ln_sD, gI_sR, gI_sA, gI_sQ, gI_sL, gI_sD, gR_sI, gR_sA, gR_sQ, gR_sL, gR_sD, gA_sI, gA_sR, gA_sQ, gA_sL, gA_sD, gQ_sI, gQ_sR, gQ_sA, gQ_sL, gQ_sD, gL_sI, gL_sR, gL_sA, gL_sQ, gL_sD]; assumption) | simp [kd_sI, kd_sR, kd_sA, kd_sQ, kd_sL, kd_sD, ln_sI, ln_sR, ln_sA, ln_sQ, ln_sL, ln_sD, gI_sR, gI_sA, gI_sQ, gI_sL, gI_sD, gR_sI, gR_sA, gR_sQ, gR_sL, gR_sD, gA_sI, gA_sR, gA_sQ, gA_sL, gA_sD, gQ_sI, gQ_sR, gQ_sA, gQ_sL, gQ_sD, gL_sI, gL_sR, gL_sA, gL_sQ, gL_sD, kd_nO, kd_nA, *]) (by first | decide | assumption) (by first | assumption | exact gI_sIs | exact gR_sRs | with_reducible rfl | (simp only [kd_sI, kd_sR, kd_sA, kd_sQ, kd_sL, kd_sD, ln_sI, ln_sR, ln_sA, ln_sQ, ln_sL, ln_sD, gI_sR, gI_sA, gI_sQ, gI_sL, gI_sD, gR_sI, gR_sA, gR_sQ, gR_sL, gR_sD, gA_sI, gA_sR, gA_sQ, gA_sL, gA_sD, gQ_sI, gQ_sR, gQ_sA, gQ_sL, gQ_sD, gL_sI, gL_sR, gL_sA, gL_sQ, gL_sD]; first | done | assumption | with_reducible rfl) | rfl) (by first | with_reducible rfl | assumption | (simp only [nI_add, pk_mul, nI_1]; with_reducible rfl)) (by first | assumption | omega) (by first | assumption | omega) ?_
                refine r_iinc dX3_fewestDrums_72 rfl (by first | exact nI_1 _ | rfl) (by simp only [lset]; rfl) ?_
                refine r_iinc dX3_fewestDrums_75 rfl (by first | exact nI_1 _ | rfl) (by simp only [lset]; rfl) ?_
                refine r_goto (tgt := 30) dX3_fewestDrums_78 (by decide) ?_
                rw [List.length_append] at nx
                refine nx _ (hU2.sA (f := 84) (Or.inl (by decide)) (by decide) (by decide)) ?_
                intro j hj
                rw [gA_sAs]
                rw [List.length_append] at hj
                have hj' : j < (needsF g y i).length + 1 := hj
                unfold upd
                by_cases h : j = (needsF g y i).length
                · rw [if_pos h, h]
                  simp
                · rw [if_neg h, hA j (by omega)]
                  simp only [List.getD_eq_getElem?_getD]
                  rw [List.getElem?_append_left (by omega)]
      exact loop C 0 _ (by omega) MU.rf (fun j hj => absurd hj (by simp [needsF]))
    · exact absurd (by decide) h21
end Mo18
