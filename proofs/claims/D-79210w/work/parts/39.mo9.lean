set_option maxRecDepth 100000
def p_mean (g : Nat → Int32) : Option UInt64 := if q_asks g = 0 then none else some (meanV g)
def GC (g : Nat → Int32) : Prop := ∀ c, c < nat g 101 → isN g (103 + 21 * c) 8 ∧ isN g (104 + 21 * c) 8 ∧ nat g (103 + 21 * c) ≠ nat g (104 + 21 * c)
def wayB (g : Nat → Int32) (ty : Option Nat) (fr to : Nat) : Best := dfs g (opB g ty) to 7 fr (2 ^ fr) [] (nI 0) none
def wayL : Best → Int32
  | none => -1
  | some (_, s) => s
def p_short (g : Nat → Int32) (y p q : Int32) : Nat × Int32 := if isY g y && inB p (nI 0) (nI 7) && inB q (nI 0) (nI 7) then (0, if p = q then nI 0 else wayL (wayB g (some y.toNatClampNeg) p.toNatClampNeg q.toNatClampNeg)) else (1, nI 0)
def q_tight (g : Nat → Int32) (ty n : Nat) : List Int32 := ((List.range n).filter (fun t => (q_place g t ty).isNone)).map nI
def q_refuse (g : Nat → Int32) (c : Nat) : List Int32 := match wayB g none (nat g (103 + 21 * c)) (nat g (104 + 21 * c)) with
  | none => [nI 3, g (103 + 21 * c), g (104 + 21 * c)]
  | some _ => nI 4 :: q_tight g (nat g (102 + 21 * c)) (nat g 40)
def ChR (H : AH) (m : Nat) (ma : Nat → Nat) (L : List Int32) : Prop := gI H 76 m = nI L.length ∧ L.length ≤ 16 ∧ ∀ k, k < L.length → gA H 1075 (ma 75) k = L.getD k 0
def p_refusal (L : List Int32) (k : Int32) : Nat × Int32 := if L = [] then (1, nI 0) else if inB k (nI 0) (nI L.length - nI 1) then (0, L.getD k.toNatClampNeg 0) else (2, nI 0)
section Mo9
variable {G : Gl} {d m : Nat} {ma : Nat → Nat} {Qr : Option AV → AH → Prop} {Qx : String → Nat → AH → Prop} {H : AH}
theorem s_meanLength (hd : 5 ≤ d) (hM : MO H m ma) (hB : GB (gA H 1068 (ma 68))) (hne : ¬ q_asks (gA H 1068 (ma 68)) = 0 → vf_n64 (meanV (gA H 1068 (ma 68)))) (hQ0 : q_asks (gA H 1068 (ma 68)) = 0 → Qr (some (vD FP.dconst0)) (sI H 77 m (nI 1))) (hQ1 : ¬ q_asks (gA H 1068 (ma 68)) = 0 → Qr (some (vD (meanV (gA H 1068 (ma 68))))) (sI H 77 m (nI 0))) : AMet G d 0 0 yX3_meanLength wX3_meanLength H [vR (some m)] Qr Qx := by
  have e0 := hM.1
  obtain ⟨e68a, e68b, e68c⟩ : gR H 68 m = some (ma 68) ∧ kd H (ma 68) = 1068 ∧ ln H (ma 68) = 385 := hM.2 68 (by decide)
  obtain ⟨hC1, hC2⟩ := hB.2.2.1
  obtain ⟨C, hC⟩ := ex_val (nat (gA H 1068 (ma 68)) 101)
  unfold meanV at hne hQ1
  unfold q_asks at hne hQ0 hQ1
  unfold q_sums at hne hQ1
  rw [← hC] at hC1 hC2 hne hQ0 hQ1
  refine AMet.of (M := mX3_meanLength) (maxL := 4) rfl rfl (Nat.le_of_ble_eq_true rfl) ?_
  show AW mX3_meanLength _ _ _ _ _ _ _ 0 [some (vR (some m)), none, none, none] []
  refine r_iconst (v := nI 0) dX3_meanLength_0 (by decide) ?_
  refine r_istore_n (i := 1) dX3_meanLength_1 rfl (Nat.le_of_ble_eq_true rfl) (by simp only [lset]; rfl) ?_
  refine r_iconst (v := nI 0) dX3_meanLength_2 (by decide) ?_
  refine r_istore_n (i := 2) dX3_meanLength_3 rfl (Nat.le_of_ble_eq_true rfl) (by simp only [lset]; rfl) ?_
  refine r_iconst (v := nI 0) dX3_meanLength_4 (by decide) ?_
  refine r_istore_n (i := 3) dX3_meanLength_5 rfl (Nat.le_of_ble_eq_true rfl) (by simp only [lset]; rfl) ?_
  have loop : ∀ (k i : Nat), i + k = C → AW mX3_meanLength G d Qr Qx 0 0 H 6 [some (vR (some m)), some (vI (sumN (fun c => if gA H 1068 (ma 68) (105 + 21 * c) = 0 then nI 0 else nI 1) i)), some (vI (sumN (fun c => if gA H 1068 (ma 68) (105 + 21 * c) = 0 then nI 0 else q_now (gA H 1068 (ma 68)) c) i)), some (vI (nI i))] [] := by
    intro k
    induction k with
    | zero =>
      intro i hi
      rw [show C = i by omega] at hne hQ0 hQ1
      refine r_iload_n (i := 3) dX3_meanLength_6 rfl rfl ?_
      refine r_aload_n (i := 0) dX3_meanLength_7 rfl rfl ?_
      refine r_getR dX3_meanLength_8 fR_X3_7 (by first | assumption | (simp only [kd_sI, kd_sR, kd_sA, kd_sQ, kd_sL, kd_sD, ln_sI, ln_sR, ln_sA, ln_sQ, ln_sL, ln_sD, gI_sR, gI_sA, gI_sQ, gI_sL, gI_sD, gR_sI, gR_sA, gR_sQ, gR_sL, gR_sD, gA_sI, gA_sR, gA_sQ, gA_sL, gA_sD, gQ_sI, gQ_sR, gQ_sA, gQ_sL, gQ_sD, gL_sI, gL_sR, gL_sA, gL_sQ, gL_sD]; assumption) | simp [kd_sI, kd_sR, kd_sA, kd_sQ, kd_sL, kd_sD, ln_sI, ln_sR, ln_sA, ln_sQ, ln_sL, ln_sD, gI_sR, gI_sA, gI_sQ, gI_sL, gI_sD, gR_sI, gR_sA, gR_sQ, gR_sL, gR_sD, gA_sI, gA_sR, gA_sQ, gA_sL, gA_sD, gQ_sI, gQ_sR, gQ_sA, gQ_sL, gQ_sD, gL_sI, gL_sR, gL_sA, gL_sQ, gL_sD, kd_nO, kd_nA, *]) (by first | assumption | exact gI_sIs | exact gR_sRs | with_reducible rfl | (simp only [kd_sI, kd_sR, kd_sA, kd_sQ, kd_sL, kd_sD, ln_sI, ln_sR, ln_sA, ln_sQ, ln_sL, ln_sD, gI_sR, gI_sA, gI_sQ, gI_sL, gI_sD, gR_sI, gR_sA, gR_sQ, gR_sL, gR_sD, gA_sI, gA_sR, gA_sQ, gA_sL, gA_sD, gQ_sI, gQ_sR, gQ_sA, gQ_sL, gQ_sD, gL_sI, gL_sR, gL_sA, gL_sQ, gL_sD]; first | done | assumption | with_reducible rfl) | rfl) ?_
      refine r_bipush (v := nI 101) dX3_meanLength_11 (by decide) ?_
      refine r_iald dX3_meanLength_13 (by first | assumption | (simp only [kd_sI, kd_sR, kd_sA, kd_sQ, kd_sL, kd_sD, ln_sI, ln_sR, ln_sA, ln_sQ, ln_sL, ln_sD, gI_sR, gI_sA, gI_sQ, gI_sL, gI_sD, gR_sI, gR_sA, gR_sQ, gR_sL, gR_sD, gA_sI, gA_sR, gA_sQ, gA_sL, gA_sD, gQ_sI, gQ_sR, gQ_sA, gQ_sL, gQ_sD, gL_sI, gL_sR, gL_sA, gL_sQ, gL_sD]; assumption) | simp [kd_sI, kd_sR, kd_sA, kd_sQ, kd_sL, kd_sD, ln_sI, ln_sR, ln_sA, ln_sQ, ln_sL, ln_sD, gI_sR, gI_sA, gI_sQ, gI_sL, gI_sD, gR_sI, gR_sA, gR_sQ, gR_sL, gR_sD, gA_sI, gA_sR, gA_sQ, gA_sL, gA_sD, gQ_sI, gQ_sR, gQ_sA, gQ_sL, gQ_sD, gL_sI, gL_sR, gL_sA, gL_sQ, gL_sD, kd_nO, kd_nA, *]) (by first | decide | assumption) (by first | assumption | exact gI_sIs | exact gR_sRs | with_reducible rfl | (simp only [kd_sI, kd_sR, kd_sA, kd_sQ, kd_sL, kd_sD, ln_sI, ln_sR, ln_sA, ln_sQ, ln_sL, ln_sD, gI_sR, gI_sA, gI_sQ, gI_sL, gI_sD, gR_sI, gR_sA, gR_sQ, gR_sL, gR_sD, gA_sI, gA_sR, gA_sQ, gA_sL, gA_sD, gQ_sI, gQ_sR, gQ_sA, gQ_sL, gQ_sD, gL_sI, gL_sR, gL_sA, gL_sQ, gL_sD]; first | done | assumption | with_reducible rfl) | rfl) (by first | with_reducible rfl | assumption | (simp only [nI_add, pk_mul, nI_1]; with_reducible rfl)) (by first | assumption | omega) (by first | assumption | omega) (by first | assumption | exact gI_sIs | exact gR_sRs | with_reducible rfl | (simp only [kd_sI, kd_sR, kd_sA, kd_sQ, kd_sL, kd_sD, ln_sI, ln_sR, ln_sA, ln_sQ, ln_sL, ln_sD, gI_sR, gI_sA, gI_sQ, gI_sL, gI_sD, gR_sI, gR_sA, gR_sQ, gR_sL, gR_sD, gA_sI, gA_sR, gA_sQ, gA_sL, gA_sD, gQ_sI, gQ_sR, gQ_sA, gQ_sL, gQ_sD, gL_sI, gL_sR, gL_sA, gL_sQ, gL_sD]; first | done | assumption | with_reducible rfl) | rfl) ?_
      refine r_icmp_ge (tgt := 61) dX3_meanLength_14 (by decide) (fun h14 => ?_) (fun h14 => ?_)
      · refine r_aload_n (i := 0) dX3_meanLength_61 rfl rfl ?_
        refine r_iload_n (i := 1) dX3_meanLength_62 rfl rfl ?_
        refine r_if_ne (tgt := 70) dX3_meanLength_63 (by decide) (fun h63 => ?_) (fun h63 => ?_)
        · refine r_iconst (v := nI 0) dX3_meanLength_70 (by decide) ?_
          refine r_putI dX3_meanLength_71 fG_X3_66 (fun _ => by first | rfl | contradiction) (by first | assumption | (simp only [kd_sI, kd_sR, kd_sA, kd_sQ, kd_sL, kd_sD, ln_sI, ln_sR, ln_sA, ln_sQ, ln_sL, ln_sD, gI_sR, gI_sA, gI_sQ, gI_sL, gI_sD, gR_sI, gR_sA, gR_sQ, gR_sL, gR_sD, gA_sI, gA_sR, gA_sQ, gA_sL, gA_sD, gQ_sI, gQ_sR, gQ_sA, gQ_sL, gQ_sD, gL_sI, gL_sR, gL_sA, gL_sQ, gL_sD]; assumption) | simp [kd_sI, kd_sR, kd_sA, kd_sQ, kd_sL, kd_sD, ln_sI, ln_sR, ln_sA, ln_sQ, ln_sL, ln_sD, gI_sR, gI_sA, gI_sQ, gI_sL, gI_sD, gR_sI, gR_sA, gR_sQ, gR_sL, gR_sD, gA_sI, gA_sR, gA_sQ, gA_sL, gA_sD, gQ_sI, gQ_sR, gQ_sA, gQ_sL, gQ_sD, gL_sI, gL_sR, gL_sA, gL_sQ, gL_sD, kd_nO, kd_nA, *]) (by first | rfl | assumption) (by first | rfl | assumption) ?_
          refine r_aload_n (i := 0) dX3_meanLength_74 rfl rfl ?_
          refine r_getI dX3_meanLength_75 fR_X3_66 (by first | assumption | (simp only [kd_sI, kd_sR, kd_sA, kd_sQ, kd_sL, kd_sD, ln_sI, ln_sR, ln_sA, ln_sQ, ln_sL, ln_sD, gI_sR, gI_sA, gI_sQ, gI_sL, gI_sD, gR_sI, gR_sA, gR_sQ, gR_sL, gR_sD, gA_sI, gA_sR, gA_sQ, gA_sL, gA_sD, gQ_sI, gQ_sR, gQ_sA, gQ_sL, gQ_sD, gL_sI, gL_sR, gL_sA, gL_sQ, gL_sD]; assumption) | simp [kd_sI, kd_sR, kd_sA, kd_sQ, kd_sL, kd_sD, ln_sI, ln_sR, ln_sA, ln_sQ, ln_sL, ln_sD, gI_sR, gI_sA, gI_sQ, gI_sL, gI_sD, gR_sI, gR_sA, gR_sQ, gR_sL, gR_sD, gA_sI, gA_sR, gA_sQ, gA_sL, gA_sD, gQ_sI, gQ_sR, gQ_sA, gQ_sL, gQ_sD, gL_sI, gL_sR, gL_sA, gL_sQ, gL_sD, kd_nO, kd_nA, *]) (by first | assumption | exact gI_sIs | exact gR_sRs | with_reducible rfl | (simp only [kd_sI, kd_sR, kd_sA, kd_sQ, kd_sL, kd_sD, ln_sI, ln_sR, ln_sA, ln_sQ, ln_sL, ln_sD, gI_sR, gI_sA, gI_sQ, gI_sL, gI_sD, gR_sI, gR_sA, gR_sQ, gR_sL, gR_sD, gA_sI, gA_sR, gA_sQ, gA_sL, gA_sD, gQ_sI, gQ_sR, gQ_sA, gQ_sL, gQ_sD, gL_sI, gL_sR, gL_sA, gL_sQ, gL_sD]; first | done | assumption | with_reducible rfl) | rfl) ?_
          refine r_if_le (tgt := 85) dX3_meanLength_78 (by decide) (fun h78 => ?_) (fun h78 => ?_)
          · refine r_iload_n (i := 2) dX3_meanLength_85 rfl rfl ?_
            refine r_i2d dX3_meanLength_86 ?_
            refine r_iload_n (i := 1) dX3_meanLength_87 rfl rfl ?_
            refine r_i2d dX3_meanLength_88 ?_
            refine r_ddiv dX3_meanLength_89 ?_ ?_
            · exact hne h63
            · refine r_dreturn dX3_meanLength_90 rfl ?_
              exact hQ1 h63
          · exact absurd (by decide) h78
        · refine r_iconst (v := nI 1) dX3_meanLength_66 (by decide) ?_
          refine r_goto (tgt := 71) dX3_meanLength_67 (by decide) ?_
          refine r_putI dX3_meanLength_71 fG_X3_66 (fun _ => by first | rfl | contradiction) (by first | assumption | (simp only [kd_sI, kd_sR, kd_sA, kd_sQ, kd_sL, kd_sD, ln_sI, ln_sR, ln_sA, ln_sQ, ln_sL, ln_sD, gI_sR, gI_sA, gI_sQ, gI_sL, gI_sD, gR_sI, gR_sA, gR_sQ, gR_sL, gR_sD, gA_sI, gA_sR, gA_sQ, gA_sL, gA_sD, gQ_sI, gQ_sR, gQ_sA, gQ_sL, gQ_sD, gL_sI, gL_sR, gL_sA, gL_sQ, gL_sD]; assumption) | simp [kd_sI, kd_sR, kd_sA, kd_sQ, kd_sL, kd_sD, ln_sI, ln_sR, ln_sA, ln_sQ, ln_sL, ln_sD, gI_sR, gI_sA, gI_sQ, gI_sL, gI_sD, gR_sI, gR_sA, gR_sQ, gR_sL, gR_sD, gA_sI, gA_sR, gA_sQ, gA_sL, gA_sD, gQ_sI, gQ_sR, gQ_sA, gQ_sL, gQ_sD, gL_sI, gL_sR, gL_sA, gL_sQ, gL_sD, kd_nO, kd_nA, *]) (by first | rfl | assumption) (by first | rfl | assumption) ?_
          refine r_aload_n (i := 0) dX3_meanLength_74 rfl rfl ?_
          refine r_getI dX3_meanLength_75 fR_X3_66 (by first | assumption | (simp only [kd_sI, kd_sR, kd_sA, kd_sQ, kd_sL, kd_sD, ln_sI, ln_sR, ln_sA, ln_sQ, ln_sL, ln_sD, gI_sR, gI_sA, gI_sQ, gI_sL, gI_sD, gR_sI, gR_sA, gR_sQ, gR_sL, gR_sD, gA_sI, gA_sR, gA_sQ, gA_sL, gA_sD, gQ_sI, gQ_sR, gQ_sA, gQ_sL, gQ_sD, gL_sI, gL_sR, gL_sA, gL_sQ, gL_sD]; assumption) | simp [kd_sI, kd_sR, kd_sA, kd_sQ, kd_sL, kd_sD, ln_sI, ln_sR, ln_sA, ln_sQ, ln_sL, ln_sD, gI_sR, gI_sA, gI_sQ, gI_sL, gI_sD, gR_sI, gR_sA, gR_sQ, gR_sL, gR_sD, gA_sI, gA_sR, gA_sQ, gA_sL, gA_sD, gQ_sI, gQ_sR, gQ_sA, gQ_sL, gQ_sD, gL_sI, gL_sR, gL_sA, gL_sQ, gL_sD, kd_nO, kd_nA, *]) (by first | assumption | exact gI_sIs | exact gR_sRs | with_reducible rfl | (simp only [kd_sI, kd_sR, kd_sA, kd_sQ, kd_sL, kd_sD, ln_sI, ln_sR, ln_sA, ln_sQ, ln_sL, ln_sD, gI_sR, gI_sA, gI_sQ, gI_sL, gI_sD, gR_sI, gR_sA, gR_sQ, gR_sL, gR_sD, gA_sI, gA_sR, gA_sQ, gA_sL, gA_sD, gQ_sI, gQ_sR, gQ_sA, gQ_sL, gQ_sD, gL_sI, gL_sR, gL_sA, gL_sQ, gL_sD]; first | done | assumption | with_reducible rfl) | rfl) ?_
          refine r_if_le (tgt := 85) dX3_meanLength_78 (by decide) (fun h78 => ?_) (fun h78 => ?_)
          · exact absurd h78 (by decide)
          · refine r_dconst0 dX3_meanLength_81 ?_
            refine r_goto (tgt := 90) dX3_meanLength_82 (by decide) ?_
            refine r_dreturn dX3_meanLength_90 rfl ?_
            exact hQ0 h63
      · exact absurd (nI_le (by omega) (by omega)) h14
    | succ k ih =>
      intro i hi
      have nx := ih (i + 1) (by omega)
      rw [sumN, sumN] at nx
      refine r_iload_n (i := 3) dX3_meanLength_6 rfl rfl ?_
      refine r_aload_n (i := 0) dX3_meanLength_7 rfl rfl ?_
      refine r_getR dX3_meanLength_8 fR_X3_7 (by first | assumption | (simp only [kd_sI, kd_sR, kd_sA, kd_sQ, kd_sL, kd_sD, ln_sI, ln_sR, ln_sA, ln_sQ, ln_sL, ln_sD, gI_sR, gI_sA, gI_sQ, gI_sL, gI_sD, gR_sI, gR_sA, gR_sQ, gR_sL, gR_sD, gA_sI, gA_sR, gA_sQ, gA_sL, gA_sD, gQ_sI, gQ_sR, gQ_sA, gQ_sL, gQ_sD, gL_sI, gL_sR, gL_sA, gL_sQ, gL_sD]; assumption) | simp [kd_sI, kd_sR, kd_sA, kd_sQ, kd_sL, kd_sD, ln_sI, ln_sR, ln_sA, ln_sQ, ln_sL, ln_sD, gI_sR, gI_sA, gI_sQ, gI_sL, gI_sD, gR_sI, gR_sA, gR_sQ, gR_sL, gR_sD, gA_sI, gA_sR, gA_sQ, gA_sL, gA_sD, gQ_sI, gQ_sR, gQ_sA, gQ_sL, gQ_sD, gL_sI, gL_sR, gL_sA, gL_sQ, gL_sD, kd_nO, kd_nA, *]) (by first | assumption | exact gI_sIs | exact gR_sRs | with_reducible rfl | (simp only [kd_sI, kd_sR, kd_sA, kd_sQ, kd_sL, kd_sD, ln_sI, ln_sR, ln_sA, ln_sQ, ln_sL, ln_sD, gI_sR, gI_sA, gI_sQ, gI_sL, gI_sD, gR_sI, gR_sA, gR_sQ, gR_sL, gR_sD, gA_sI, gA_sR, gA_sQ, gA_sL, gA_sD, gQ_sI, gQ_sR, gQ_sA, gQ_sL, gQ_sD, gL_sI, gL_sR, gL_sA, gL_sQ, gL_sD]; first | done | assumption | with_reducible rfl) | rfl) ?_
      refine r_bipush (v := nI 101) dX3_meanLength_11 (by decide) ?_
      refine r_iald dX3_meanLength_13 (by first | assumption | (simp only [kd_sI, kd_sR, kd_sA, kd_sQ, kd_sL, kd_sD, ln_sI, ln_sR, ln_sA, ln_sQ, ln_sL, ln_sD, gI_sR, gI_sA, gI_sQ, gI_sL, gI_sD, gR_sI, gR_sA, gR_sQ, gR_sL, gR_sD, gA_sI, gA_sR, gA_sQ, gA_sL, gA_sD, gQ_sI, gQ_sR, gQ_sA, gQ_sL, gQ_sD, gL_sI, gL_sR, gL_sA, gL_sQ, gL_sD]; assumption) | simp [kd_sI, kd_sR, kd_sA, kd_sQ, kd_sL, kd_sD, ln_sI, ln_sR, ln_sA, ln_sQ, ln_sL, ln_sD, gI_sR, gI_sA, gI_sQ, gI_sL, gI_sD, gR_sI, gR_sA, gR_sQ, gR_sL, gR_sD, gA_sI, gA_sR, gA_sQ, gA_sL, gA_sD, gQ_sI, gQ_sR, gQ_sA, gQ_sL, gQ_sD, gL_sI, gL_sR, gL_sA, gL_sQ, gL_sD, kd_nO, kd_nA, *]) (by first | decide | assumption) (by first | assumption | exact gI_sIs | exact gR_sRs | with_reducible rfl | (simp only [kd_sI, kd_sR, kd_sA, kd_sQ, kd_sL, kd_sD, ln_sI, ln_sR, ln_sA, ln_sQ, ln_sL, ln_sD, gI_sR, gI_sA, gI_sQ, gI_sL, gI_sD, gR_sI, gR_sA, gR_sQ, gR_sL, gR_sD, gA_sI, gA_sR, gA_sQ, gA_sL, gA_sD, gQ_sI, gQ_sR, gQ_sA, gQ_sL, gQ_sD, gL_sI, gL_sR, gL_sA, gL_sQ, gL_sD]; first | done | assumption | with_reducible rfl) | rfl) (by first | with_reducible rfl | assumption | (simp only [nI_add, pk_mul, nI_1]; with_reducible rfl)) (by first | assumption | omega) (by first | assumption | omega) (by first | assumption | exact gI_sIs | exact gR_sRs | with_reducible rfl | (simp only [kd_sI, kd_sR, kd_sA, kd_sQ, kd_sL, kd_sD, ln_sI, ln_sR, ln_sA, ln_sQ, ln_sL, ln_sD, gI_sR, gI_sA, gI_sQ, gI_sL, gI_sD, gR_sI, gR_sA, gR_sQ, gR_sL, gR_sD, gA_sI, gA_sR, gA_sQ, gA_sL, gA_sD, gQ_sI, gQ_sR, gQ_sA, gQ_sL, gQ_sD, gL_sI, gL_sR, gL_sA, gL_sQ, gL_sD]; first | done | assumption | with_reducible rfl) | rfl) ?_
      refine r_icmp_ge (tgt := 61) dX3_meanLength_14 (by decide) (fun h14 => ?_) (fun h14 => ?_)
      · exact absurd h14 (nI_ge (by omega) (by omega))
      · refine r_iload_n (i := 1) dX3_meanLength_17 rfl rfl ?_
        refine r_aload_n (i := 0) dX3_meanLength_18 rfl rfl ?_
        refine r_iload_n (i := 3) dX3_meanLength_19 rfl rfl ?_
        refine r_iconst (v := nI 3) dX3_meanLength_20 (by decide) ?_
        refine r_callV (As := [_, _]) (mc' := 0) (ms' := 0) dX3_meanLength_21 k_X3_105 rfl (by first | assumption | (simp only [kd_sI, kd_sR, kd_sA, kd_sQ, kd_sL, kd_sD, ln_sI, ln_sR, ln_sA, ln_sQ, ln_sL, ln_sD, gI_sR, gI_sA, gI_sQ, gI_sL, gI_sD, gR_sI, gR_sA, gR_sQ, gR_sL, gR_sD, gA_sI, gA_sR, gA_sQ, gA_sL, gA_sD, gQ_sI, gQ_sR, gQ_sA, gQ_sL, gQ_sD, gL_sI, gL_sR, gL_sA, gL_sQ, gL_sD]; assumption) | simp [kd_sI, kd_sR, kd_sA, kd_sQ, kd_sL, kd_sD, ln_sI, ln_sR, ln_sA, ln_sQ, ln_sL, ln_sD, gI_sR, gI_sA, gI_sQ, gI_sL, gI_sD, gR_sI, gR_sA, gR_sQ, gR_sL, gR_sD, gA_sI, gA_sR, gA_sQ, gA_sL, gA_sD, gQ_sI, gQ_sR, gQ_sA, gQ_sL, gQ_sD, gL_sI, gL_sR, gL_sA, gL_sQ, gL_sD, kd_nO, kd_nA, *]) (T := TX3) (N := 27) rfl (by first | assumption | omega) (by first | assumption | omega) (by first | assumption | omega) (Nat.le_of_ble_eq_true rfl) ?_
        refine s_cableTold (by omega) hM (by omega) ?_
        rw [show 102 + 21 * i + 3 = 105 + 21 * i by omega]
        refine r_if_eq (tgt := 31) dX3_meanLength_24 (by decide) (fun h24 => ?_) (fun h24 => ?_)
        · rw [if_pos h24, if_pos h24] at nx
          refine r_iconst (v := nI 0) dX3_meanLength_31 (by decide) ?_
          refine r_iadd dX3_meanLength_32 ?_
          refine r_istore_n (i := 1) dX3_meanLength_33 rfl (Nat.le_of_ble_eq_true rfl) (by simp only [lset]; rfl) ?_
          refine r_iload_n (i := 2) dX3_meanLength_34 rfl rfl ?_
          refine r_aload_n (i := 0) dX3_meanLength_35 rfl rfl ?_
          refine r_iload_n (i := 3) dX3_meanLength_36 rfl rfl ?_
          refine r_iconst (v := nI 3) dX3_meanLength_37 (by decide) ?_
          try simp only [nI_add, pk_mul, nI_1]
          refine r_callV (As := [_, _]) (mc' := 0) (ms' := 0) dX3_meanLength_38 k_X3_105 rfl (by first | assumption | (simp only [kd_sI, kd_sR, kd_sA, kd_sQ, kd_sL, kd_sD, ln_sI, ln_sR, ln_sA, ln_sQ, ln_sL, ln_sD, gI_sR, gI_sA, gI_sQ, gI_sL, gI_sD, gR_sI, gR_sA, gR_sQ, gR_sL, gR_sD, gA_sI, gA_sR, gA_sQ, gA_sL, gA_sD, gQ_sI, gQ_sR, gQ_sA, gQ_sL, gQ_sD, gL_sI, gL_sR, gL_sA, gL_sQ, gL_sD]; assumption) | simp [kd_sI, kd_sR, kd_sA, kd_sQ, kd_sL, kd_sD, ln_sI, ln_sR, ln_sA, ln_sQ, ln_sL, ln_sD, gI_sR, gI_sA, gI_sQ, gI_sL, gI_sD, gR_sI, gR_sA, gR_sQ, gR_sL, gR_sD, gA_sI, gA_sR, gA_sQ, gA_sL, gA_sD, gQ_sI, gQ_sR, gQ_sA, gQ_sL, gQ_sD, gL_sI, gL_sR, gL_sA, gL_sQ, gL_sD, kd_nO, kd_nA, *]) (T := TX3) (N := 27) rfl (by first | assumption | omega) (by first | assumption | omega) (by first | assumption | omega) (Nat.le_of_ble_eq_true rfl) ?_
          refine s_cableTold (by omega) hM (by omega) ?_
          rw [show 102 + 21 * i + 3 = 105 + 21 * i by omega]
          refine r_if_eq (tgt := 52) dX3_meanLength_41 (by decide) (fun h41 => ?_) (fun h41 => ?_)
          · refine r_iconst (v := nI 0) dX3_meanLength_52 (by decide) ?_
            refine r_iadd dX3_meanLength_53 ?_
            refine r_istore_n (i := 2) dX3_meanLength_54 rfl (Nat.le_of_ble_eq_true rfl) (by simp only [lset]; rfl) ?_
            refine r_iinc dX3_meanLength_55 rfl (by first | exact nI_1 _ | rfl) (by simp only [lset]; rfl) ?_
            refine r_goto (tgt := 6) dX3_meanLength_58 (by decide) ?_
            exact nx
          · exact absurd h24 h41
        · rw [if_neg h24, if_neg h24] at nx
          refine r_iconst (v := nI 1) dX3_meanLength_27 (by decide) ?_
          refine r_goto (tgt := 32) dX3_meanLength_28 (by decide) ?_
          refine r_iadd dX3_meanLength_32 ?_
          refine r_istore_n (i := 1) dX3_meanLength_33 rfl (Nat.le_of_ble_eq_true rfl) (by simp only [lset]; rfl) ?_
          refine r_iload_n (i := 2) dX3_meanLength_34 rfl rfl ?_
          refine r_aload_n (i := 0) dX3_meanLength_35 rfl rfl ?_
          refine r_iload_n (i := 3) dX3_meanLength_36 rfl rfl ?_
          refine r_iconst (v := nI 3) dX3_meanLength_37 (by decide) ?_
          try simp only [nI_add, pk_mul, nI_1]
          refine r_callV (As := [_, _]) (mc' := 0) (ms' := 0) dX3_meanLength_38 k_X3_105 rfl (by first | assumption | (simp only [kd_sI, kd_sR, kd_sA, kd_sQ, kd_sL, kd_sD, ln_sI, ln_sR, ln_sA, ln_sQ, ln_sL, ln_sD, gI_sR, gI_sA, gI_sQ, gI_sL, gI_sD, gR_sI, gR_sA, gR_sQ, gR_sL, gR_sD, gA_sI, gA_sR, gA_sQ, gA_sL, gA_sD, gQ_sI, gQ_sR, gQ_sA, gQ_sL, gQ_sD, gL_sI, gL_sR, gL_sA, gL_sQ, gL_sD]; assumption) | simp [kd_sI, kd_sR, kd_sA, kd_sQ, kd_sL, kd_sD, ln_sI, ln_sR, ln_sA, ln_sQ, ln_sL, ln_sD, gI_sR, gI_sA, gI_sQ, gI_sL, gI_sD, gR_sI, gR_sA, gR_sQ, gR_sL, gR_sD, gA_sI, gA_sR, gA_sQ, gA_sL, gA_sD, gQ_sI, gQ_sR, gQ_sA, gQ_sL, gQ_sD, gL_sI, gL_sR, gL_sA, gL_sQ, gL_sD, kd_nO, kd_nA, *]) (T := TX3) (N := 27) rfl (by first | assumption | omega) (by first | assumption | omega) (by first | assumption | omega) (Nat.le_of_ble_eq_true rfl) ?_
          refine s_cableTold (by omega) hM (by omega) ?_
          rw [show 102 + 21 * i + 3 = 105 + 21 * i by omega]
          refine r_if_eq (tgt := 52) dX3_meanLength_41 (by decide) (fun h41 => ?_) (fun h41 => ?_)
          · exact absurd h41 h24
          · refine r_aload_n (i := 0) dX3_meanLength_44 rfl rfl ?_
            refine r_iload_n (i := 3) dX3_meanLength_45 rfl rfl ?_
            refine r_callV (As := [_]) (mc' := 0) (ms' := 0) dX3_meanLength_46 k_X3_199 rfl (by first | assumption | (simp only [kd_sI, kd_sR, kd_sA, kd_sQ, kd_sL, kd_sD, ln_sI, ln_sR, ln_sA, ln_sQ, ln_sL, ln_sD, gI_sR, gI_sA, gI_sQ, gI_sL, gI_sD, gR_sI, gR_sA, gR_sQ, gR_sL, gR_sD, gA_sI, gA_sR, gA_sQ, gA_sL, gA_sD, gQ_sI, gQ_sR, gQ_sA, gQ_sL, gQ_sD, gL_sI, gL_sR, gL_sA, gL_sQ, gL_sD]; assumption) | simp [kd_sI, kd_sR, kd_sA, kd_sQ, kd_sL, kd_sD, ln_sI, ln_sR, ln_sA, ln_sQ, ln_sL, ln_sD, gI_sR, gI_sA, gI_sQ, gI_sL, gI_sD, gR_sI, gR_sA, gR_sQ, gR_sL, gR_sD, gA_sI, gA_sR, gA_sQ, gA_sL, gA_sD, gQ_sI, gQ_sR, gQ_sA, gQ_sL, gQ_sD, gL_sI, gL_sR, gL_sA, gL_sQ, gL_sD, kd_nO, kd_nA, *]) (T := TX3) (N := 27) rfl (by first | assumption | omega) (by first | assumption | omega) (by first | assumption | omega) (Nat.le_of_ble_eq_true rfl) ?_
            refine s_lengthNow (by omega) hM hB (by omega) ?_
            refine r_goto (tgt := 53) dX3_meanLength_49 (by decide) ?_
            refine r_iadd dX3_meanLength_53 ?_
            refine r_istore_n (i := 2) dX3_meanLength_54 rfl (Nat.le_of_ble_eq_true rfl) (by simp only [lset]; rfl) ?_
            refine r_iinc dX3_meanLength_55 rfl (by first | exact nI_1 _ | rfl) (by simp only [lset]; rfl) ?_
            refine r_goto (tgt := 6) dX3_meanLength_58 (by decide) ?_
            exact nx
  exact loop C 0 (by omega)
theorem s_isConsistent (hd : 4 ≤ d) (hM : MO H m ma) (hB : GB (gA H 1068 (ma 68))) (hQ : Qr (some (vI (bI (q_cons (gA H 1068 (ma 68)))))) (sI H 77 m (nI 0))) : AMet G d 0 0 yX3_isConsistent wX3_isConsistent H [vR (some m)] Qr Qx := by
  have e0 := hM.1
  refine AMet.of (M := mX3_isConsistent) (maxL := 3) rfl rfl (Nat.le_of_ble_eq_true rfl) ?_
  show AW mX3_isConsistent _ _ _ _ _ _ _ 0 [some (vR (some m)), none, none] []
  refine r_aload_n (i := 0) dX3_isConsistent_0 rfl rfl ?_
  refine r_iconst (v := nI 0) dX3_isConsistent_1 (by decide) ?_
  refine r_putI dX3_isConsistent_2 fG_X3_66 (fun _ => by first | rfl | contradiction) (by first | assumption | (simp only [kd_sI, kd_sR, kd_sA, kd_sQ, kd_sL, kd_sD, ln_sI, ln_sR, ln_sA, ln_sQ, ln_sL, ln_sD, gI_sR, gI_sA, gI_sQ, gI_sL, gI_sD, gR_sI, gR_sA, gR_sQ, gR_sL, gR_sD, gA_sI, gA_sR, gA_sQ, gA_sL, gA_sD, gQ_sI, gQ_sR, gQ_sA, gQ_sL, gQ_sD, gL_sI, gL_sR, gL_sA, gL_sQ, gL_sD]; assumption) | simp [kd_sI, kd_sR, kd_sA, kd_sQ, kd_sL, kd_sD, ln_sI, ln_sR, ln_sA, ln_sQ, ln_sL, ln_sD, gI_sR, gI_sA, gI_sQ, gI_sL, gI_sD, gR_sI, gR_sA, gR_sQ, gR_sL, gR_sD, gA_sI, gA_sR, gA_sQ, gA_sL, gA_sD, gQ_sI, gQ_sR, gQ_sA, gQ_sL, gQ_sD, gL_sI, gL_sR, gL_sA, gL_sQ, gL_sD, kd_nO, kd_nA, *]) (by first | rfl | assumption) (by first | rfl | assumption) ?_
  have body : ∀ H1 : AH, MO H1 m ma → GB (gA H1 1068 (ma 68)) → Qr (some (vI (bI (q_cons (gA H1 1068 (ma 68)))))) H1 → AW mX3_isConsistent G d Qr Qx 0 0 H1 5 [some (vR (some m)), none, none] [] := by
    intro H1 hM hB hQ
    have e0 := hM.1
    obtain ⟨e68a, e68b, e68c⟩ : gR H1 68 m = some (ma 68) ∧ kd H1 (ma 68) = 1068 ∧ ln H1 (ma 68) = 385 := hM.2 68 (by decide)
    obtain ⟨hC1, hC2⟩ := hB.2.2.1
    obtain ⟨C, hC⟩ := ex_val (nat (gA H1 1068 (ma 68)) 101)
    have hY := hB.1.2
    have hc0 := hB.2.2.2.2.2
    unfold q_cons at hQ
    rw [← hC] at hC1 hC2 hQ hc0
    have loop : ∀ (k i : Nat) (o : Option AV), i + k = C → find9 (q_badC (gA H1 1068 (ma 68))) 0 C = find9 (q_badC (gA H1 1068 (ma 68))) i k → AW mX3_isConsistent G d Qr Qx 0 0 H1 7 [some (vR (some m)), some (vI (nI i)), o] [] := by
      intro k
      induction k with
      | zero =>
        intro i o hi hf
        rw [hf, find9, Option.isNone_none, Bool.true_and] at hQ
        refine r_iload_n (i := 1) dX3_isConsistent_7 rfl rfl ?_
        refine r_aload_n (i := 0) dX3_isConsistent_8 rfl rfl ?_
        refine r_getR dX3_isConsistent_9 fR_X3_7 (by first | assumption | (simp only [kd_sI, kd_sR, kd_sA, kd_sQ, kd_sL, kd_sD, ln_sI, ln_sR, ln_sA, ln_sQ, ln_sL, ln_sD, gI_sR, gI_sA, gI_sQ, gI_sL, gI_sD, gR_sI, gR_sA, gR_sQ, gR_sL, gR_sD, gA_sI, gA_sR, gA_sQ, gA_sL, gA_sD, gQ_sI, gQ_sR, gQ_sA, gQ_sL, gQ_sD, gL_sI, gL_sR, gL_sA, gL_sQ, gL_sD]; assumption) | simp [kd_sI, kd_sR, kd_sA, kd_sQ, kd_sL, kd_sD, ln_sI, ln_sR, ln_sA, ln_sQ, ln_sL, ln_sD, gI_sR, gI_sA, gI_sQ, gI_sL, gI_sD, gR_sI, gR_sA, gR_sQ, gR_sL, gR_sD, gA_sI, gA_sR, gA_sQ, gA_sL, gA_sD, gQ_sI, gQ_sR, gQ_sA, gQ_sL, gQ_sD, gL_sI, gL_sR, gL_sA, gL_sQ, gL_sD, kd_nO, kd_nA, *]) (by first | assumption | exact gI_sIs | exact gR_sRs | with_reducible rfl | (simp only [kd_sI, kd_sR, kd_sA, kd_sQ, kd_sL, kd_sD, ln_sI, ln_sR, ln_sA, ln_sQ, ln_sL, ln_sD, gI_sR, gI_sA, gI_sQ, gI_sL, gI_sD, gR_sI, gR_sA, gR_sQ, gR_sL, gR_sD, gA_sI, gA_sR, gA_sQ, gA_sL, gA_sD, gQ_sI, gQ_sR, gQ_sA, gQ_sL, gQ_sD, gL_sI, gL_sR, gL_sA, gL_sQ, gL_sD]; first | done | assumption | with_reducible rfl) | rfl) ?_
        refine r_bipush (v := nI 101) dX3_isConsistent_12 (by decide) ?_
        refine r_iald dX3_isConsistent_14 (by first | assumption | (simp only [kd_sI, kd_sR, kd_sA, kd_sQ, kd_sL, kd_sD, ln_sI, ln_sR, ln_sA, ln_sQ, ln_sL, ln_sD, gI_sR, gI_sA, gI_sQ, gI_sL, gI_sD, gR_sI, gR_sA, gR_sQ, gR_sL, gR_sD, gA_sI, gA_sR, gA_sQ, gA_sL, gA_sD, gQ_sI, gQ_sR, gQ_sA, gQ_sL, gQ_sD, gL_sI, gL_sR, gL_sA, gL_sQ, gL_sD]; assumption) | simp [kd_sI, kd_sR, kd_sA, kd_sQ, kd_sL, kd_sD, ln_sI, ln_sR, ln_sA, ln_sQ, ln_sL, ln_sD, gI_sR, gI_sA, gI_sQ, gI_sL, gI_sD, gR_sI, gR_sA, gR_sQ, gR_sL, gR_sD, gA_sI, gA_sR, gA_sQ, gA_sL, gA_sD, gQ_sI, gQ_sR, gQ_sA, gQ_sL, gQ_sD, gL_sI, gL_sR, gL_sA, gL_sQ, gL_sD, kd_nO, kd_nA, *]) (by first | decide | assumption) (by first | assumption | exact gI_sIs | exact gR_sRs | with_reducible rfl | (simp only [kd_sI, kd_sR, kd_sA, kd_sQ, kd_sL, kd_sD, ln_sI, ln_sR, ln_sA, ln_sQ, ln_sL, ln_sD, gI_sR, gI_sA, gI_sQ, gI_sL, gI_sD, gR_sI, gR_sA, gR_sQ, gR_sL, gR_sD, gA_sI, gA_sR, gA_sQ, gA_sL, gA_sD, gQ_sI, gQ_sR, gQ_sA, gQ_sL, gQ_sD, gL_sI, gL_sR, gL_sA, gL_sQ, gL_sD]; first | done | assumption | with_reducible rfl) | rfl) (by first | with_reducible rfl | assumption | (simp only [nI_add, pk_mul, nI_1]; with_reducible rfl)) (by first | assumption | omega) (by first | assumption | omega) (by first | assumption | exact gI_sIs | exact gR_sRs | with_reducible rfl | (simp only [kd_sI, kd_sR, kd_sA, kd_sQ, kd_sL, kd_sD, ln_sI, ln_sR, ln_sA, ln_sQ, ln_sL, ln_sD, gI_sR, gI_sA, gI_sQ, gI_sL, gI_sD, gR_sI, gR_sA, gR_sQ, gR_sL, gR_sD, gA_sI, gA_sR, gA_sQ, gA_sL, gA_sD, gQ_sI, gQ_sR, gQ_sA, gQ_sL, gQ_sD, gL_sI, gL_sR, gL_sA, gL_sQ, gL_sD]; first | done | assumption | with_reducible rfl) | rfl) ?_
        refine r_icmp_ge (tgt := 89) dX3_isConsistent_15 (by decide) (fun h15 => ?_) (fun h15 => ?_)
        · refine r_aload_n (i := 0) dX3_isConsistent_89 rfl rfl ?_
          refine r_iconst (v := nI 1) dX3_isConsistent_90 (by decide) ?_
          refine r_iconst (v := -1) dX3_isConsistent_91 (by decide) ?_
          refine r_callV (As := [_, _]) (mc' := 0) (ms' := 0) dX3_isConsistent_92 k_X3_202 rfl (by first | assumption | (simp only [kd_sI, kd_sR, kd_sA, kd_sQ, kd_sL, kd_sD, ln_sI, ln_sR, ln_sA, ln_sQ, ln_sL, ln_sD, gI_sR, gI_sA, gI_sQ, gI_sL, gI_sD, gR_sI, gR_sA, gR_sQ, gR_sL, gR_sD, gA_sI, gA_sR, gA_sQ, gA_sL, gA_sD, gQ_sI, gQ_sR, gQ_sA, gQ_sL, gQ_sD, gL_sI, gL_sR, gL_sA, gL_sQ, gL_sD]; assumption) | simp [kd_sI, kd_sR, kd_sA, kd_sQ, kd_sL, kd_sD, ln_sI, ln_sR, ln_sA, ln_sQ, ln_sL, ln_sD, gI_sR, gI_sA, gI_sQ, gI_sL, gI_sD, gR_sI, gR_sA, gR_sQ, gR_sL, gR_sD, gA_sI, gA_sR, gA_sQ, gA_sL, gA_sD, gQ_sI, gQ_sR, gQ_sA, gQ_sL, gQ_sD, gL_sI, gL_sR, gL_sA, gL_sQ, gL_sD, kd_nO, kd_nA, *]) (T := TX3) (N := 27) rfl (by first | assumption | omega) (by first | assumption | omega) (by first | assumption | omega) (Nat.le_of_ble_eq_true rfl) ?_
          refine s_sumOfDrums (by omega) hM hB (by omega) ?_
          refine r_aload_n (i := 0) dX3_isConsistent_95 rfl rfl ?_
          refine r_callV (As := []) (mc' := 0) (ms' := 0) dX3_isConsistent_96 k_X3_205 rfl (by first | assumption | (simp only [kd_sI, kd_sR, kd_sA, kd_sQ, kd_sL, kd_sD, ln_sI, ln_sR, ln_sA, ln_sQ, ln_sL, ln_sD, gI_sR, gI_sA, gI_sQ, gI_sL, gI_sD, gR_sI, gR_sA, gR_sQ, gR_sL, gR_sD, gA_sI, gA_sR, gA_sQ, gA_sL, gA_sD, gQ_sI, gQ_sR, gQ_sA, gQ_sL, gQ_sD, gL_sI, gL_sR, gL_sA, gL_sQ, gL_sD]; assumption) | simp [kd_sI, kd_sR, kd_sA, kd_sQ, kd_sL, kd_sD, ln_sI, ln_sR, ln_sA, ln_sQ, ln_sL, ln_sD, gI_sR, gI_sA, gI_sQ, gI_sL, gI_sD, gR_sI, gR_sA, gR_sQ, gR_sL, gR_sD, gA_sI, gA_sR, gA_sQ, gA_sL, gA_sD, gQ_sI, gQ_sR, gQ_sA, gQ_sL, gQ_sD, gL_sI, gL_sR, gL_sA, gL_sQ, gL_sD, kd_nO, kd_nA, *]) (T := TX3) (N := 27) rfl (by first | assumption | omega) (by first | assumption | omega) (by first | assumption | omega) (Nat.le_of_ble_eq_true rfl) ?_
          refine s_cutLengths (by omega) hM hB ?_
          refine r_iadd dX3_isConsistent_99 ?_
          refine r_aload_n (i := 0) dX3_isConsistent_100 rfl rfl ?_
          refine r_getR dX3_isConsistent_101 fR_X3_7 (by first | assumption | (simp only [kd_sI, kd_sR, kd_sA, kd_sQ, kd_sL, kd_sD, ln_sI, ln_sR, ln_sA, ln_sQ, ln_sL, ln_sD, gI_sR, gI_sA, gI_sQ, gI_sL, gI_sD, gR_sI, gR_sA, gR_sQ, gR_sL, gR_sD, gA_sI, gA_sR, gA_sQ, gA_sL, gA_sD, gQ_sI, gQ_sR, gQ_sA, gQ_sL, gQ_sD, gL_sI, gL_sR, gL_sA, gL_sQ, gL_sD]; assumption) | simp [kd_sI, kd_sR, kd_sA, kd_sQ, kd_sL, kd_sD, ln_sI, ln_sR, ln_sA, ln_sQ, ln_sL, ln_sD, gI_sR, gI_sA, gI_sQ, gI_sL, gI_sD, gR_sI, gR_sA, gR_sQ, gR_sL, gR_sD, gA_sI, gA_sR, gA_sQ, gA_sL, gA_sD, gQ_sI, gQ_sR, gQ_sA, gQ_sL, gQ_sD, gL_sI, gL_sR, gL_sA, gL_sQ, gL_sD, kd_nO, kd_nA, *]) (by first | assumption | exact gI_sIs | exact gR_sRs | with_reducible rfl | (simp only [kd_sI, kd_sR, kd_sA, kd_sQ, kd_sL, kd_sD, ln_sI, ln_sR, ln_sA, ln_sQ, ln_sL, ln_sD, gI_sR, gI_sA, gI_sQ, gI_sL, gI_sD, gR_sI, gR_sA, gR_sQ, gR_sL, gR_sD, gA_sI, gA_sR, gA_sQ, gA_sL, gA_sD, gQ_sI, gQ_sR, gQ_sA, gQ_sL, gQ_sD, gL_sI, gL_sR, gL_sA, gL_sQ, gL_sD]; first | done | assumption | with_reducible rfl) | rfl) ?_
          refine r_iconst (v := nI 2) dX3_isConsistent_104 (by decide) ?_
          refine r_iald dX3_isConsistent_105 (by first | assumption | (simp only [kd_sI, kd_sR, kd_sA, kd_sQ, kd_sL, kd_sD, ln_sI, ln_sR, ln_sA, ln_sQ, ln_sL, ln_sD, gI_sR, gI_sA, gI_sQ, gI_sL, gI_sD, gR_sI, gR_sA, gR_sQ, gR_sL, gR_sD, gA_sI, gA_sR, gA_sQ, gA_sL, gA_sD, gQ_sI, gQ_sR, gQ_sA, gQ_sL, gQ_sD, gL_sI, gL_sR, gL_sA, gL_sQ, gL_sD]; assumption) | simp [kd_sI, kd_sR, kd_sA, kd_sQ, kd_sL, kd_sD, ln_sI, ln_sR, ln_sA, ln_sQ, ln_sL, ln_sD, gI_sR, gI_sA, gI_sQ, gI_sL, gI_sD, gR_sI, gR_sA, gR_sQ, gR_sL, gR_sD, gA_sI, gA_sR, gA_sQ, gA_sL, gA_sD, gQ_sI, gQ_sR, gQ_sA, gQ_sL, gQ_sD, gL_sI, gL_sR, gL_sA, gL_sQ, gL_sD, kd_nO, kd_nA, *]) (by first | decide | assumption) (by first | assumption | exact gI_sIs | exact gR_sRs | with_reducible rfl | (simp only [kd_sI, kd_sR, kd_sA, kd_sQ, kd_sL, kd_sD, ln_sI, ln_sR, ln_sA, ln_sQ, ln_sL, ln_sD, gI_sR, gI_sA, gI_sQ, gI_sL, gI_sD, gR_sI, gR_sA, gR_sQ, gR_sL, gR_sD, gA_sI, gA_sR, gA_sQ, gA_sL, gA_sD, gQ_sI, gQ_sR, gQ_sA, gQ_sL, gQ_sD, gL_sI, gL_sR, gL_sA, gL_sQ, gL_sD]; first | done | assumption | with_reducible rfl) | rfl) (by first | with_reducible rfl | assumption | (simp only [nI_add, pk_mul, nI_1]; with_reducible rfl)) (by first | assumption | omega) (by first | assumption | omega) (by first | assumption | exact gI_sIs | exact gR_sRs | with_reducible rfl | (simp only [kd_sI, kd_sR, kd_sA, kd_sQ, kd_sL, kd_sD, ln_sI, ln_sR, ln_sA, ln_sQ, ln_sL, ln_sD, gI_sR, gI_sA, gI_sQ, gI_sL, gI_sD, gR_sI, gR_sA, gR_sQ, gR_sL, gR_sD, gA_sI, gA_sR, gA_sQ, gA_sL, gA_sD, gQ_sI, gQ_sR, gQ_sA, gQ_sL, gQ_sD, gL_sI, gL_sR, gL_sA, gL_sQ, gL_sD]; first | done | assumption | with_reducible rfl) | rfl) ?_
          refine r_iadd dX3_isConsistent_106 ?_
          refine r_aload_n (i := 0) dX3_isConsistent_107 rfl rfl ?_
          refine r_iconst (v := nI 2) dX3_isConsistent_108 (by decide) ?_
          refine r_iconst (v := -1) dX3_isConsistent_109 (by decide) ?_
          try simp only [nI_add, pk_mul, nI_1]
          refine r_callV (As := [_, _]) (mc' := 0) (ms' := 0) dX3_isConsistent_110 k_X3_202 rfl (by first | assumption | (simp only [kd_sI, kd_sR, kd_sA, kd_sQ, kd_sL, kd_sD, ln_sI, ln_sR, ln_sA, ln_sQ, ln_sL, ln_sD, gI_sR, gI_sA, gI_sQ, gI_sL, gI_sD, gR_sI, gR_sA, gR_sQ, gR_sL, gR_sD, gA_sI, gA_sR, gA_sQ, gA_sL, gA_sD, gQ_sI, gQ_sR, gQ_sA, gQ_sL, gQ_sD, gL_sI, gL_sR, gL_sA, gL_sQ, gL_sD]; assumption) | simp [kd_sI, kd_sR, kd_sA, kd_sQ, kd_sL, kd_sD, ln_sI, ln_sR, ln_sA, ln_sQ, ln_sL, ln_sD, gI_sR, gI_sA, gI_sQ, gI_sL, gI_sD, gR_sI, gR_sA, gR_sQ, gR_sL, gR_sD, gA_sI, gA_sR, gA_sQ, gA_sL, gA_sD, gQ_sI, gQ_sR, gQ_sA, gQ_sL, gQ_sD, gL_sI, gL_sR, gL_sA, gL_sQ, gL_sD, kd_nO, kd_nA, *]) (T := TX3) (N := 27) rfl (by first | assumption | omega) (by first | assumption | omega) (by first | assumption | omega) (Nat.le_of_ble_eq_true rfl) ?_
          refine s_sumOfDrums (by omega) hM hB (by omega) ?_
          refine r_icmp_ne (tgt := 120) dX3_isConsistent_113 (by decide) (fun h113 => ?_) (fun h113 => ?_)
          · rw [decide_eq_false h113] at hQ
            refine r_iconst (v := nI 0) dX3_isConsistent_120 (by decide) ?_
            refine r_ireturn dX3_isConsistent_121 rfl (by first | rfl | assumption | exact vp_nar_int _ | exact pk_nc _) ?_
            exact hQ
          · rw [decide_eq_true h113] at hQ
            refine r_iconst (v := nI 1) dX3_isConsistent_116 (by decide) ?_
            refine r_goto (tgt := 121) dX3_isConsistent_117 (by decide) ?_
            refine r_ireturn dX3_isConsistent_121 rfl (by first | rfl | assumption | exact vp_nar_int _ | exact pk_nc _) ?_
            exact hQ
        · exact absurd (nI_le (by omega) (by omega)) h15
      | succ k ih =>
        intro i o hi hf
        rw [find9] at hf
        obtain ⟨hy, ⟨hk1, hk2⟩, hst⟩ := hc0 i (by omega)
        obtain ⟨hy1, hy2⟩ := hy
        obtain ⟨n, hn⟩ : ∃ n, n = nat (gA H1 1068 (ma 68)) (106 + 21 * i) := ⟨_, rfl⟩
        rw [← hn] at hk1 hk2 hst
        have bad : q_badC (gA H1 1068 (ma 68)) i = true → Qr (some (vI (nI 0))) H1 := by
          intro hb
          rw [if_pos hb] at hf
          rw [hf] at hQ
          exact hQ
        refine r_iload_n (i := 1) dX3_isConsistent_7 rfl rfl ?_
        refine r_aload_n (i := 0) dX3_isConsistent_8 rfl rfl ?_
        refine r_getR dX3_isConsistent_9 fR_X3_7 (by first | assumption | (simp only [kd_sI, kd_sR, kd_sA, kd_sQ, kd_sL, kd_sD, ln_sI, ln_sR, ln_sA, ln_sQ, ln_sL, ln_sD, gI_sR, gI_sA, gI_sQ, gI_sL, gI_sD, gR_sI, gR_sA, gR_sQ, gR_sL, gR_sD, gA_sI, gA_sR, gA_sQ, gA_sL, gA_sD, gQ_sI, gQ_sR, gQ_sA, gQ_sL, gQ_sD, gL_sI, gL_sR, gL_sA, gL_sQ, gL_sD]; assumption) | simp [kd_sI, kd_sR, kd_sA, kd_sQ, kd_sL, kd_sD, ln_sI, ln_sR, ln_sA, ln_sQ, ln_sL, ln_sD, gI_sR, gI_sA, gI_sQ, gI_sL, gI_sD, gR_sI, gR_sA, gR_sQ, gR_sL, gR_sD, gA_sI, gA_sR, gA_sQ, gA_sL, gA_sD, gQ_sI, gQ_sR, gQ_sA, gQ_sL, gQ_sD, gL_sI, gL_sR, gL_sA, gL_sQ, gL_sD, kd_nO, kd_nA, *]) (by first | assumption | exact gI_sIs | exact gR_sRs | with_reducible rfl | (simp only [kd_sI, kd_sR, kd_sA, kd_sQ, kd_sL, kd_sD, ln_sI, ln_sR, ln_sA, ln_sQ, ln_sL, ln_sD, gI_sR, gI_sA, gI_sQ, gI_sL, gI_sD, gR_sI, gR_sA, gR_sQ, gR_sL, gR_sD, gA_sI, gA_sR, gA_sQ, gA_sL, gA_sD, gQ_sI, gQ_sR, gQ_sA, gQ_sL, gQ_sD, gL_sI, gL_sR, gL_sA, gL_sQ, gL_sD]; first | done | assumption | with_reducible rfl) | rfl) ?_
        refine r_bipush (v := nI 101) dX3_isConsistent_12 (by decide) ?_
        refine r_iald dX3_isConsistent_14 (by first | assumption | (simp only [kd_sI, kd_sR, kd_sA, kd_sQ, kd_sL, kd_sD, ln_sI, ln_sR, ln_sA, ln_sQ, ln_sL, ln_sD, gI_sR, gI_sA, gI_sQ, gI_sL, gI_sD, gR_sI, gR_sA, gR_sQ, gR_sL, gR_sD, gA_sI, gA_sR, gA_sQ, gA_sL, gA_sD, gQ_sI, gQ_sR, gQ_sA, gQ_sL, gQ_sD, gL_sI, gL_sR, gL_sA, gL_sQ, gL_sD]; assumption) | simp [kd_sI, kd_sR, kd_sA, kd_sQ, kd_sL, kd_sD, ln_sI, ln_sR, ln_sA, ln_sQ, ln_sL, ln_sD, gI_sR, gI_sA, gI_sQ, gI_sL, gI_sD, gR_sI, gR_sA, gR_sQ, gR_sL, gR_sD, gA_sI, gA_sR, gA_sQ, gA_sL, gA_sD, gQ_sI, gQ_sR, gQ_sA, gQ_sL, gQ_sD, gL_sI, gL_sR, gL_sA, gL_sQ, gL_sD, kd_nO, kd_nA, *]) (by first | decide | assumption) (by first | assumption | exact gI_sIs | exact gR_sRs | with_reducible rfl | (simp only [kd_sI, kd_sR, kd_sA, kd_sQ, kd_sL, kd_sD, ln_sI, ln_sR, ln_sA, ln_sQ, ln_sL, ln_sD, gI_sR, gI_sA, gI_sQ, gI_sL, gI_sD, gR_sI, gR_sA, gR_sQ, gR_sL, gR_sD, gA_sI, gA_sR, gA_sQ, gA_sL, gA_sD, gQ_sI, gQ_sR, gQ_sA, gQ_sL, gQ_sD, gL_sI, gL_sR, gL_sA, gL_sQ, gL_sD]; first | done | assumption | with_reducible rfl) | rfl) (by first | with_reducible rfl | assumption | (simp only [nI_add, pk_mul, nI_1]; with_reducible rfl)) (by first | assumption | omega) (by first | assumption | omega) (by first | assumption | exact gI_sIs | exact gR_sRs | with_reducible rfl | (simp only [kd_sI, kd_sR, kd_sA, kd_sQ, kd_sL, kd_sD, ln_sI, ln_sR, ln_sA, ln_sQ, ln_sL, ln_sD, gI_sR, gI_sA, gI_sQ, gI_sL, gI_sD, gR_sI, gR_sA, gR_sQ, gR_sL, gR_sD, gA_sI, gA_sR, gA_sQ, gA_sL, gA_sD, gQ_sI, gQ_sR, gQ_sA, gQ_sL, gQ_sD, gL_sI, gL_sR, gL_sA, gL_sQ, gL_sD]; first | done | assumption | with_reducible rfl) | rfl) ?_
        refine r_icmp_ge (tgt := 89) dX3_isConsistent_15 (by decide) (fun h15 => ?_) (fun h15 => ?_)
        · exact absurd h15 (nI_ge (by omega) (by omega))
        · refine r_aload_n (i := 0) dX3_isConsistent_18 rfl rfl ?_
          refine r_iload_n (i := 1) dX3_isConsistent_19 rfl rfl ?_
          refine r_callV (As := [_]) (mc' := 0) (ms' := 0) dX3_isConsistent_20 k_X3_218 rfl (by first | assumption | (simp only [kd_sI, kd_sR, kd_sA, kd_sQ, kd_sL, kd_sD, ln_sI, ln_sR, ln_sA, ln_sQ, ln_sL, ln_sD, gI_sR, gI_sA, gI_sQ, gI_sL, gI_sD, gR_sI, gR_sA, gR_sQ, gR_sL, gR_sD, gA_sI, gA_sR, gA_sQ, gA_sL, gA_sD, gQ_sI, gQ_sR, gQ_sA, gQ_sL, gQ_sD, gL_sI, gL_sR, gL_sA, gL_sQ, gL_sD]; assumption) | simp [kd_sI, kd_sR, kd_sA, kd_sQ, kd_sL, kd_sD, ln_sI, ln_sR, ln_sA, ln_sQ, ln_sL, ln_sD, gI_sR, gI_sA, gI_sQ, gI_sL, gI_sD, gR_sI, gR_sA, gR_sQ, gR_sL, gR_sD, gA_sI, gA_sR, gA_sQ, gA_sL, gA_sD, gQ_sI, gQ_sR, gQ_sA, gQ_sL, gQ_sD, gL_sI, gL_sR, gL_sA, gL_sQ, gL_sD, kd_nO, kd_nA, *]) (T := TX3) (N := 27) rfl (by first | assumption | omega) (by first | assumption | omega) (by first | assumption | omega) (Nat.le_of_ble_eq_true rfl) ?_
          refine s_leadsOn (by omega) hM hB (by omega) ?_
          refine r_if_ne (tgt := 28) dX3_isConsistent_23 (by decide) (fun h23 => ?_) (fun h23 => ?_)
          · have hl := bI_ne0 h23
            refine r_iconst (v := nI 0) dX3_isConsistent_28 (by decide) ?_
            refine r_istore_n (i := 2) dX3_isConsistent_29 rfl (Nat.le_of_ble_eq_true rfl) (by simp only [lset]; rfl) ?_
            have inner : ∀ (k' j : Nat), j + k' = n → find9 (q_bad (gA H1 1068 (ma 68)) i) 0 n = find9 (q_bad (gA H1 1068 (ma 68)) i) j k' → AW mX3_isConsistent G d Qr Qx 0 0 H1 30 [some (vR (some m)), some (vI (nI i)), some (vI (nI j))] [] := by
              intro k'
              induction k' with
              | zero =>
                intro j hj hf2
                rw [find9] at hf2
                refine r_iload_n (i := 2) dX3_isConsistent_30 rfl rfl ?_
                refine r_aload_n (i := 0) dX3_isConsistent_31 rfl rfl ?_
                refine r_iload_n (i := 1) dX3_isConsistent_32 rfl rfl ?_
                refine r_iconst (v := nI 4) dX3_isConsistent_33 (by decide) ?_
                refine r_callV (As := [_, _]) (mc' := 0) (ms' := 0) dX3_isConsistent_34 k_X3_105 rfl (by first | assumption | (simp only [kd_sI, kd_sR, kd_sA, kd_sQ, kd_sL, kd_sD, ln_sI, ln_sR, ln_sA, ln_sQ, ln_sL, ln_sD, gI_sR, gI_sA, gI_sQ, gI_sL, gI_sD, gR_sI, gR_sA, gR_sQ, gR_sL, gR_sD, gA_sI, gA_sR, gA_sQ, gA_sL, gA_sD, gQ_sI, gQ_sR, gQ_sA, gQ_sL, gQ_sD, gL_sI, gL_sR, gL_sA, gL_sQ, gL_sD]; assumption) | simp [kd_sI, kd_sR, kd_sA, kd_sQ, kd_sL, kd_sD, ln_sI, ln_sR, ln_sA, ln_sQ, ln_sL, ln_sD, gI_sR, gI_sA, gI_sQ, gI_sL, gI_sD, gR_sI, gR_sA, gR_sQ, gR_sL, gR_sD, gA_sI, gA_sR, gA_sQ, gA_sL, gA_sD, gQ_sI, gQ_sR, gQ_sA, gQ_sL, gQ_sD, gL_sI, gL_sR, gL_sA, gL_sQ, gL_sD, kd_nO, kd_nA, *]) (T := TX3) (N := 27) rfl (by first | assumption | omega) (by first | assumption | omega) (by first | assumption | omega) (Nat.le_of_ble_eq_true rfl) ?_
                refine s_cableTold (by omega) hM (by omega) ?_
                rw [show 102 + 21 * i + 4 = 106 + 21 * i by omega, hk1]
                refine r_icmp_ge (tgt := 83) dX3_isConsistent_37 (by decide) (fun h37 => ?_) (fun h37 => ?_)
                · rw [if_neg (by unfold q_badC; rw [hl, ← hn, hf2]; decide)] at hf
                  refine r_iinc dX3_isConsistent_83 rfl (by first | exact nI_1 _ | rfl) (by simp only [lset]; rfl) ?_
                  refine r_goto (tgt := 7) dX3_isConsistent_86 (by decide) ?_
                  exact ih (i + 1) _ (by omega) hf
                · exact absurd (nI_le (by omega) (by omega)) h37
              | succ k' ih2 =>
                intro j hj hf2
                rw [find9] at hf2
                have hs := hst j (by omega)
                refine r_iload_n (i := 2) dX3_isConsistent_30 rfl rfl ?_
                refine r_aload_n (i := 0) dX3_isConsistent_31 rfl rfl ?_
                refine r_iload_n (i := 1) dX3_isConsistent_32 rfl rfl ?_
                refine r_iconst (v := nI 4) dX3_isConsistent_33 (by decide) ?_
                refine r_callV (As := [_, _]) (mc' := 0) (ms' := 0) dX3_isConsistent_34 k_X3_105 rfl (by first | assumption | (simp only [kd_sI, kd_sR, kd_sA, kd_sQ, kd_sL, kd_sD, ln_sI, ln_sR, ln_sA, ln_sQ, ln_sL, ln_sD, gI_sR, gI_sA, gI_sQ, gI_sL, gI_sD, gR_sI, gR_sA, gR_sQ, gR_sL, gR_sD, gA_sI, gA_sR, gA_sQ, gA_sL, gA_sD, gQ_sI, gQ_sR, gQ_sA, gQ_sL, gQ_sD, gL_sI, gL_sR, gL_sA, gL_sQ, gL_sD]; assumption) | simp [kd_sI, kd_sR, kd_sA, kd_sQ, kd_sL, kd_sD, ln_sI, ln_sR, ln_sA, ln_sQ, ln_sL, ln_sD, gI_sR, gI_sA, gI_sQ, gI_sL, gI_sD, gR_sI, gR_sA, gR_sQ, gR_sL, gR_sD, gA_sI, gA_sR, gA_sQ, gA_sL, gA_sD, gQ_sI, gQ_sR, gQ_sA, gQ_sL, gQ_sD, gL_sI, gL_sR, gL_sA, gL_sQ, gL_sD, kd_nO, kd_nA, *]) (T := TX3) (N := 27) rfl (by first | assumption | omega) (by first | assumption | omega) (by first | assumption | omega) (Nat.le_of_ble_eq_true rfl) ?_
                refine s_cableTold (by omega) hM (by omega) ?_
                rw [show 102 + 21 * i + 4 = 106 + 21 * i by omega, hk1]
                refine r_icmp_ge (tgt := 83) dX3_isConsistent_37 (by decide) (fun h37 => ?_) (fun h37 => ?_)
                · exact absurd h37 (nI_ge (by omega) (by omega))
                · refine r_aload_n (i := 0) dX3_isConsistent_40 rfl rfl ?_
                  refine r_aload_n (i := 0) dX3_isConsistent_41 rfl rfl ?_
                  refine r_iload_n (i := 1) dX3_isConsistent_42 rfl rfl ?_
                  refine r_bipush (v := nI 7) dX3_isConsistent_43 (by decide) ?_
                  refine r_iload_n (i := 2) dX3_isConsistent_45 rfl rfl ?_
                  refine r_iadd dX3_isConsistent_46 ?_
                  try simp only [nI_add, pk_mul, nI_1]
                  refine r_callV (As := [_, _]) (mc' := 0) (ms' := 0) dX3_isConsistent_47 k_X3_105 rfl (by first | assumption | (simp only [kd_sI, kd_sR, kd_sA, kd_sQ, kd_sL, kd_sD, ln_sI, ln_sR, ln_sA, ln_sQ, ln_sL, ln_sD, gI_sR, gI_sA, gI_sQ, gI_sL, gI_sD, gR_sI, gR_sA, gR_sQ, gR_sL, gR_sD, gA_sI, gA_sR, gA_sQ, gA_sL, gA_sD, gQ_sI, gQ_sR, gQ_sA, gQ_sL, gQ_sD, gL_sI, gL_sR, gL_sA, gL_sQ, gL_sD]; assumption) | simp [kd_sI, kd_sR, kd_sA, kd_sQ, kd_sL, kd_sD, ln_sI, ln_sR, ln_sA, ln_sQ, ln_sL, ln_sD, gI_sR, gI_sA, gI_sQ, gI_sL, gI_sD, gR_sI, gR_sA, gR_sQ, gR_sL, gR_sD, gA_sI, gA_sR, gA_sQ, gA_sL, gA_sD, gQ_sI, gQ_sR, gQ_sA, gQ_sL, gQ_sD, gL_sI, gL_sR, gL_sA, gL_sQ, gL_sD, kd_nO, kd_nA, *]) (T := TX3) (N := 27) rfl (by first | assumption | omega) (by first | assumption | omega) (by first | assumption | omega) (Nat.le_of_ble_eq_true rfl) ?_
                  refine s_cableTold (by omega) hM (by omega) ?_
                  rw [show 102 + 21 * i + (7 + j) = 109 + 21 * i + j by omega]
                  refine r_aload_n (i := 0) dX3_isConsistent_50 rfl rfl ?_
                  refine r_iload_n (i := 1) dX3_isConsistent_51 rfl rfl ?_
                  refine r_bipush (v := nI 14) dX3_isConsistent_52 (by decide) ?_
                  refine r_iload_n (i := 2) dX3_isConsistent_54 rfl rfl ?_
                  refine r_iadd dX3_isConsistent_55 ?_
                  try simp only [nI_add, pk_mul, nI_1]
                  refine r_callV (As := [_, _]) (mc' := 0) (ms' := 0) dX3_isConsistent_56 k_X3_105 rfl (by first | assumption | (simp only [kd_sI, kd_sR, kd_sA, kd_sQ, kd_sL, kd_sD, ln_sI, ln_sR, ln_sA, ln_sQ, ln_sL, ln_sD, gI_sR, gI_sA, gI_sQ, gI_sL, gI_sD, gR_sI, gR_sA, gR_sQ, gR_sL, gR_sD, gA_sI, gA_sR, gA_sQ, gA_sL, gA_sD, gQ_sI, gQ_sR, gQ_sA, gQ_sL, gQ_sD, gL_sI, gL_sR, gL_sA, gL_sQ, gL_sD]; assumption) | simp [kd_sI, kd_sR, kd_sA, kd_sQ, kd_sL, kd_sD, ln_sI, ln_sR, ln_sA, ln_sQ, ln_sL, ln_sD, gI_sR, gI_sA, gI_sQ, gI_sL, gI_sD, gR_sI, gR_sA, gR_sQ, gR_sL, gR_sD, gA_sI, gA_sR, gA_sQ, gA_sL, gA_sD, gQ_sI, gQ_sR, gQ_sA, gQ_sL, gQ_sD, gL_sI, gL_sR, gL_sA, gL_sQ, gL_sD, kd_nO, kd_nA, *]) (T := TX3) (N := 27) rfl (by first | assumption | omega) (by first | assumption | omega) (by first | assumption | omega) (Nat.le_of_ble_eq_true rfl) ?_
                  refine s_cableTold (by omega) hM (by omega) ?_
                  rw [show 102 + 21 * i + (14 + j) = 116 + 21 * i + j by omega]
                  refine r_callV (As := [_, _]) (mc' := 0) (ms' := 0) dX3_isConsistent_59 k_X3_139 rfl (by first | assumption | (simp only [kd_sI, kd_sR, kd_sA, kd_sQ, kd_sL, kd_sD, ln_sI, ln_sR, ln_sA, ln_sQ, ln_sL, ln_sD, gI_sR, gI_sA, gI_sQ, gI_sL, gI_sD, gR_sI, gR_sA, gR_sQ, gR_sL, gR_sD, gA_sI, gA_sR, gA_sQ, gA_sL, gA_sD, gQ_sI, gQ_sR, gQ_sA, gQ_sL, gQ_sD, gL_sI, gL_sR, gL_sA, gL_sQ, gL_sD]; assumption) | simp [kd_sI, kd_sR, kd_sA, kd_sQ, kd_sL, kd_sD, ln_sI, ln_sR, ln_sA, ln_sQ, ln_sL, ln_sD, gI_sR, gI_sA, gI_sQ, gI_sL, gI_sD, gR_sI, gR_sA, gR_sQ, gR_sL, gR_sD, gA_sI, gA_sR, gA_sQ, gA_sL, gA_sD, gQ_sI, gQ_sR, gQ_sA, gQ_sL, gQ_sD, gL_sI, gL_sR, gL_sA, gL_sQ, gL_sD, kd_nO, kd_nA, *]) (T := TX3) (N := 27) rfl (by first | assumption | omega) (by first | assumption | omega) (by first | assumption | omega) (Nat.le_of_ble_eq_true rfl) ?_
                  refine s_classIn (by omega) hM hB ?_
                  refine r_aload_n (i := 0) dX3_isConsistent_62 rfl rfl ?_
                  refine r_aload_n (i := 0) dX3_isConsistent_63 rfl rfl ?_
                  refine r_iload_n (i := 1) dX3_isConsistent_64 rfl rfl ?_
                  refine r_iconst (v := nI 0) dX3_isConsistent_65 (by decide) ?_
                  refine r_callV (As := [_, _]) (mc' := 0) (ms' := 0) dX3_isConsistent_66 k_X3_105 rfl (by first | assumption | (simp only [kd_sI, kd_sR, kd_sA, kd_sQ, kd_sL, kd_sD, ln_sI, ln_sR, ln_sA, ln_sQ, ln_sL, ln_sD, gI_sR, gI_sA, gI_sQ, gI_sL, gI_sD, gR_sI, gR_sA, gR_sQ, gR_sL, gR_sD, gA_sI, gA_sR, gA_sQ, gA_sL, gA_sD, gQ_sI, gQ_sR, gQ_sA, gQ_sL, gQ_sD, gL_sI, gL_sR, gL_sA, gL_sQ, gL_sD]; assumption) | simp [kd_sI, kd_sR, kd_sA, kd_sQ, kd_sL, kd_sD, ln_sI, ln_sR, ln_sA, ln_sQ, ln_sL, ln_sD, gI_sR, gI_sA, gI_sQ, gI_sL, gI_sD, gR_sI, gR_sA, gR_sQ, gR_sL, gR_sD, gA_sI, gA_sR, gA_sQ, gA_sL, gA_sD, gQ_sI, gQ_sR, gQ_sA, gQ_sL, gQ_sD, gL_sI, gL_sR, gL_sA, gL_sQ, gL_sD, kd_nO, kd_nA, *]) (T := TX3) (N := 27) rfl (by first | assumption | omega) (by first | assumption | omega) (by first | assumption | omega) (Nat.le_of_ble_eq_true rfl) ?_
                  refine s_cableTold (by omega) hM (by omega) ?_
                  rw [show 102 + 21 * i + 0 = 102 + 21 * i by omega, hy1]
                  refine r_callV (As := [_]) (mc' := 0) (ms' := 0) dX3_isConsistent_69 k_X3_130 rfl (by first | assumption | (simp only [kd_sI, kd_sR, kd_sA, kd_sQ, kd_sL, kd_sD, ln_sI, ln_sR, ln_sA, ln_sQ, ln_sL, ln_sD, gI_sR, gI_sA, gI_sQ, gI_sL, gI_sD, gR_sI, gR_sA, gR_sQ, gR_sL, gR_sD, gA_sI, gA_sR, gA_sQ, gA_sL, gA_sD, gQ_sI, gQ_sR, gQ_sA, gQ_sL, gQ_sD, gL_sI, gL_sR, gL_sA, gL_sQ, gL_sD]; assumption) | simp [kd_sI, kd_sR, kd_sA, kd_sQ, kd_sL, kd_sD, ln_sI, ln_sR, ln_sA, ln_sQ, ln_sL, ln_sD, gI_sR, gI_sA, gI_sQ, gI_sL, gI_sD, gR_sI, gR_sA, gR_sQ, gR_sL, gR_sD, gA_sI, gA_sR, gA_sQ, gA_sL, gA_sD, gQ_sI, gQ_sR, gQ_sA, gQ_sL, gQ_sD, gL_sI, gL_sR, gL_sA, gL_sQ, gL_sD, kd_nO, kd_nA, *]) (T := TX3) (N := 27) rfl (by first | assumption | omega) (by first | assumption | omega) (by first | assumption | omega) (Nat.le_of_ble_eq_true rfl) ?_
                  refine s_classOf hM (by omega) ?_
                  refine r_icmp_eq (tgt := 77) dX3_isConsistent_72 (by decide) (fun h72 => ?_) (fun h72 => ?_)
                  · have hbd : ¬ q_bad (gA H1 1068 (ma 68)) i j = true := by
                      unfold q_bad
                      rw [h72, beq_self_eq_true]
                      decide
                    rw [if_neg hbd] at hf2
                    refine r_iinc dX3_isConsistent_77 rfl (by first | exact nI_1 _ | rfl) (by simp only [lset]; rfl) ?_
                    refine r_goto (tgt := 30) dX3_isConsistent_80 (by decide) ?_
                    exact ih2 (j + 1) (by omega) hf2
                  · have hbd : q_bad (gA H1 1068 (ma 68)) i j = true := by
                      unfold q_bad
                      rw [beq_eq_false_iff_ne.mpr h72]
                      rfl
                    rw [if_pos hbd] at hf2
                    refine r_iconst (v := nI 0) dX3_isConsistent_75 (by decide) ?_
                    refine r_ireturn dX3_isConsistent_76 rfl (by first | rfl | assumption | exact vp_nar_int _ | exact pk_nc _) ?_
                    exact bad (by unfold q_badC; rw [← hn, hf2]; simp)
            exact inner n 0 (by omega) rfl
          · refine r_iconst (v := nI 0) dX3_isConsistent_26 (by decide) ?_
            refine r_ireturn dX3_isConsistent_27 rfl (by first | rfl | assumption | exact vp_nar_int _ | exact pk_nc _) ?_
            exact bad (by unfold q_badC; rw [bI_eq0.mp h23]; rfl)
    refine r_iconst (v := nI 0) dX3_isConsistent_5 (by decide) ?_
    refine r_istore_n (i := 1) dX3_isConsistent_6 rfl (Nat.le_of_ble_eq_true rfl) (by simp only [lset]; rfl) ?_
    exact loop C 0 _ (by omega) rfl
  exact body _ (hM.mf (MF.sI (by decide) (by decide))) hB hQ
theorem s_shortest {y p q : Int32} (hd : 6 ≤ d) (hM : MO H m ma) (hB : GB (gA H 1068 (ma 68))) (hT : GT (gA H 1068 (ma 68)))
    (hQ : ∀ H', MU m ma [77, 78, 2078, 79, 80, 81, 82, 83] H H' → gI H' 77 m = nI (p_short (gA H 1068 (ma 68)) y p q).1 → Qr (some (vI (p_short (gA H 1068 (ma 68)) y p q).2)) H') : AMet G d 0 0 yX3_shortest wX3_shortest H [vR (some m), vI y, vI p, vI q] Qr Qx := by
  have e0 := hM.1
  unfold p_short at hQ
  have bad : (isY (gA H 1068 (ma 68)) y && inB p (nI 0) (nI 7) && inB q (nI 0) (nI 7)) = false → Qr (some (vI (nI 0))) (sI H 77 m (nI 1)) := by
    intro hb
    rw [hb] at hQ
    exact hQ _ (MU.rf.sI (by decide) (by decide) (by decide)) gI_sIs
  refine AMet.of (M := mX3_shortest) (maxL := 4) rfl rfl (Nat.le_of_ble_eq_true rfl) ?_
  show AW mX3_shortest _ _ _ _ _ _ _ 0 [some (vR (some m)), some (vI y), some (vI p), some (vI q)] []
  refine r_aload_n (i := 0) dX3_shortest_0 rfl rfl ?_
  refine r_aload_n (i := 0) dX3_shortest_1 rfl rfl ?_
  refine r_iload_n (i := 1) dX3_shortest_2 rfl rfl ?_
  refine r_callV (As := [_]) (mc' := 0) (ms' := 0) dX3_shortest_3 k_X3_118 rfl (by first | assumption | (simp only [kd_sI, kd_sR, kd_sA, kd_sQ, kd_sL, kd_sD, ln_sI, ln_sR, ln_sA, ln_sQ, ln_sL, ln_sD, gI_sR, gI_sA, gI_sQ, gI_sL, gI_sD, gR_sI, gR_sA, gR_sQ, gR_sL, gR_sD, gA_sI, gA_sR, gA_sQ, gA_sL, gA_sD, gQ_sI, gQ_sR, gQ_sA, gQ_sL, gQ_sD, gL_sI, gL_sR, gL_sA, gL_sQ, gL_sD]; assumption) | simp [kd_sI, kd_sR, kd_sA, kd_sQ, kd_sL, kd_sD, ln_sI, ln_sR, ln_sA, ln_sQ, ln_sL, ln_sD, gI_sR, gI_sA, gI_sQ, gI_sL, gI_sD, gR_sI, gR_sA, gR_sQ, gR_sL, gR_sD, gA_sI, gA_sR, gA_sQ, gA_sL, gA_sD, gQ_sI, gQ_sR, gQ_sA, gQ_sL, gQ_sD, gL_sI, gL_sR, gL_sA, gL_sQ, gL_sD, kd_nO, kd_nA, *]) (T := TX3) (N := 27) rfl (by first | assumption | omega) (by first | assumption | omega) (by first | assumption | omega) (Nat.le_of_ble_eq_true rfl) ?_
  refine s_isType (by omega) hM ?_
  refine r_if_eq (tgt := 27) dX3_shortest_6 (by decide) (fun h6 => ?_) (fun h6 => ?_)
  · refine r_iconst (v := nI 1) dX3_shortest_27 (by decide) ?_
    refine r_putI dX3_shortest_28 fG_X3_66 (fun _ => by first | rfl | contradiction) (by first | assumption | (simp only [kd_sI, kd_sR, kd_sA, kd_sQ, kd_sL, kd_sD, ln_sI, ln_sR, ln_sA, ln_sQ, ln_sL, ln_sD, gI_sR, gI_sA, gI_sQ, gI_sL, gI_sD, gR_sI, gR_sA, gR_sQ, gR_sL, gR_sD, gA_sI, gA_sR, gA_sQ, gA_sL, gA_sD, gQ_sI, gQ_sR, gQ_sA, gQ_sL, gQ_sD, gL_sI, gL_sR, gL_sA, gL_sQ, gL_sD]; assumption) | simp [kd_sI, kd_sR, kd_sA, kd_sQ, kd_sL, kd_sD, ln_sI, ln_sR, ln_sA, ln_sQ, ln_sL, ln_sD, gI_sR, gI_sA, gI_sQ, gI_sL, gI_sD, gR_sI, gR_sA, gR_sQ, gR_sL, gR_sD, gA_sI, gA_sR, gA_sQ, gA_sL, gA_sD, gQ_sI, gQ_sR, gQ_sA, gQ_sL, gQ_sD, gL_sI, gL_sR, gL_sA, gL_sQ, gL_sD, kd_nO, kd_nA, *]) (by first | rfl | assumption) (by first | rfl | assumption) ?_
    refine r_aload_n (i := 0) dX3_shortest_31 rfl rfl ?_
    refine r_getI dX3_shortest_32 fR_X3_66 (by first | assumption | (simp only [kd_sI, kd_sR, kd_sA, kd_sQ, kd_sL, kd_sD, ln_sI, ln_sR, ln_sA, ln_sQ, ln_sL, ln_sD, gI_sR, gI_sA, gI_sQ, gI_sL, gI_sD, gR_sI, gR_sA, gR_sQ, gR_sL, gR_sD, gA_sI, gA_sR, gA_sQ, gA_sL, gA_sD, gQ_sI, gQ_sR, gQ_sA, gQ_sL, gQ_sD, gL_sI, gL_sR, gL_sA, gL_sQ, gL_sD]; assumption) | simp [kd_sI, kd_sR, kd_sA, kd_sQ, kd_sL, kd_sD, ln_sI, ln_sR, ln_sA, ln_sQ, ln_sL, ln_sD, gI_sR, gI_sA, gI_sQ, gI_sL, gI_sD, gR_sI, gR_sA, gR_sQ, gR_sL, gR_sD, gA_sI, gA_sR, gA_sQ, gA_sL, gA_sD, gQ_sI, gQ_sR, gQ_sA, gQ_sL, gQ_sD, gL_sI, gL_sR, gL_sA, gL_sQ, gL_sD, kd_nO, kd_nA, *]) (by first | assumption | exact gI_sIs | exact gR_sRs | with_reducible rfl | (simp only [kd_sI, kd_sR, kd_sA, kd_sQ, kd_sL, kd_sD, ln_sI, ln_sR, ln_sA, ln_sQ, ln_sL, ln_sD, gI_sR, gI_sA, gI_sQ, gI_sL, gI_sD, gR_sI, gR_sA, gR_sQ, gR_sL, gR_sD, gA_sI, gA_sR, gA_sQ, gA_sL, gA_sD, gQ_sI, gQ_sR, gQ_sA, gQ_sL, gQ_sD, gL_sI, gL_sR, gL_sA, gL_sQ, gL_sD]; first | done | assumption | with_reducible rfl) | rfl) ?_
    refine r_if_gt (tgt := 43) dX3_shortest_35 (by decide) (fun h35 => ?_) (fun h35 => ?_)
    · refine r_iconst (v := nI 0) dX3_shortest_43 (by decide) ?_
      refine r_ireturn dX3_shortest_44 rfl (by first | rfl | assumption | exact vp_nar_int _ | exact pk_nc _) ?_
      exact bad (by rw [show isY (gA H 1068 (ma 68)) y = false from bI_eq0.mp h6]; simp)
    · exact absurd (by decide) h35
  · have hy := bI_ne0 h6
    refine r_iload_n (i := 2) dX3_shortest_9 rfl rfl ?_
    refine r_callS (As := [_]) (mc' := 0) (ms' := 0) dX3_shortest_10 k_X3_101 rfl (by first | assumption | omega) (by first | assumption | omega) (by first | assumption | omega) (Nat.le_of_ble_eq_true rfl) ?_
    refine s_isPlace (by omega) ?_
    refine r_if_eq (tgt := 27) dX3_shortest_13 (by decide) (fun h13 => ?_) (fun h13 => ?_)
    · refine r_iconst (v := nI 1) dX3_shortest_27 (by decide) ?_
      refine r_putI dX3_shortest_28 fG_X3_66 (fun _ => by first | rfl | contradiction) (by first | assumption | (simp only [kd_sI, kd_sR, kd_sA, kd_sQ, kd_sL, kd_sD, ln_sI, ln_sR, ln_sA, ln_sQ, ln_sL, ln_sD, gI_sR, gI_sA, gI_sQ, gI_sL, gI_sD, gR_sI, gR_sA, gR_sQ, gR_sL, gR_sD, gA_sI, gA_sR, gA_sQ, gA_sL, gA_sD, gQ_sI, gQ_sR, gQ_sA, gQ_sL, gQ_sD, gL_sI, gL_sR, gL_sA, gL_sQ, gL_sD]; assumption) | simp [kd_sI, kd_sR, kd_sA, kd_sQ, kd_sL, kd_sD, ln_sI, ln_sR, ln_sA, ln_sQ, ln_sL, ln_sD, gI_sR, gI_sA, gI_sQ, gI_sL, gI_sD, gR_sI, gR_sA, gR_sQ, gR_sL, gR_sD, gA_sI, gA_sR, gA_sQ, gA_sL, gA_sD, gQ_sI, gQ_sR, gQ_sA, gQ_sL, gQ_sD, gL_sI, gL_sR, gL_sA, gL_sQ, gL_sD, kd_nO, kd_nA, *]) (by first | rfl | assumption) (by first | rfl | assumption) ?_
      refine r_aload_n (i := 0) dX3_shortest_31 rfl rfl ?_
      refine r_getI dX3_shortest_32 fR_X3_66 (by first | assumption | (simp only [kd_sI, kd_sR, kd_sA, kd_sQ, kd_sL, kd_sD, ln_sI, ln_sR, ln_sA, ln_sQ, ln_sL, ln_sD, gI_sR, gI_sA, gI_sQ, gI_sL, gI_sD, gR_sI, gR_sA, gR_sQ, gR_sL, gR_sD, gA_sI, gA_sR, gA_sQ, gA_sL, gA_sD, gQ_sI, gQ_sR, gQ_sA, gQ_sL, gQ_sD, gL_sI, gL_sR, gL_sA, gL_sQ, gL_sD]; assumption) | simp [kd_sI, kd_sR, kd_sA, kd_sQ, kd_sL, kd_sD, ln_sI, ln_sR, ln_sA, ln_sQ, ln_sL, ln_sD, gI_sR, gI_sA, gI_sQ, gI_sL, gI_sD, gR_sI, gR_sA, gR_sQ, gR_sL, gR_sD, gA_sI, gA_sR, gA_sQ, gA_sL, gA_sD, gQ_sI, gQ_sR, gQ_sA, gQ_sL, gQ_sD, gL_sI, gL_sR, gL_sA, gL_sQ, gL_sD, kd_nO, kd_nA, *]) (by first | assumption | exact gI_sIs | exact gR_sRs | with_reducible rfl | (simp only [kd_sI, kd_sR, kd_sA, kd_sQ, kd_sL, kd_sD, ln_sI, ln_sR, ln_sA, ln_sQ, ln_sL, ln_sD, gI_sR, gI_sA, gI_sQ, gI_sL, gI_sD, gR_sI, gR_sA, gR_sQ, gR_sL, gR_sD, gA_sI, gA_sR, gA_sQ, gA_sL, gA_sD, gQ_sI, gQ_sR, gQ_sA, gQ_sL, gQ_sD, gL_sI, gL_sR, gL_sA, gL_sQ, gL_sD]; first | done | assumption | with_reducible rfl) | rfl) ?_
      refine r_if_gt (tgt := 43) dX3_shortest_35 (by decide) (fun h35 => ?_) (fun h35 => ?_)
      · refine r_iconst (v := nI 0) dX3_shortest_43 (by decide) ?_
        refine r_ireturn dX3_shortest_44 rfl (by first | rfl | assumption | exact vp_nar_int _ | exact pk_nc _) ?_
        exact bad (by rw [bI_eq0.mp h13]; simp)
      · exact absurd (by decide) h35
    · have hp := bI_ne0 h13
      refine r_iload_n (i := 3) dX3_shortest_16 rfl rfl ?_
      refine r_callS (As := [_]) (mc' := 0) (ms' := 0) dX3_shortest_17 k_X3_101 rfl (by first | assumption | omega) (by first | assumption | omega) (by first | assumption | omega) (Nat.le_of_ble_eq_true rfl) ?_
      refine s_isPlace (by omega) ?_
      refine r_if_eq (tgt := 27) dX3_shortest_20 (by decide) (fun h20 => ?_) (fun h20 => ?_)
      · refine r_iconst (v := nI 1) dX3_shortest_27 (by decide) ?_
        refine r_putI dX3_shortest_28 fG_X3_66 (fun _ => by first | rfl | contradiction) (by first | assumption | (simp only [kd_sI, kd_sR, kd_sA, kd_sQ, kd_sL, kd_sD, ln_sI, ln_sR, ln_sA, ln_sQ, ln_sL, ln_sD, gI_sR, gI_sA, gI_sQ, gI_sL, gI_sD, gR_sI, gR_sA, gR_sQ, gR_sL, gR_sD, gA_sI, gA_sR, gA_sQ, gA_sL, gA_sD, gQ_sI, gQ_sR, gQ_sA, gQ_sL, gQ_sD, gL_sI, gL_sR, gL_sA, gL_sQ, gL_sD]; assumption) | simp [kd_sI, kd_sR, kd_sA, kd_sQ, kd_sL, kd_sD, ln_sI, ln_sR, ln_sA, ln_sQ, ln_sL, ln_sD, gI_sR, gI_sA, gI_sQ, gI_sL, gI_sD, gR_sI, gR_sA, gR_sQ, gR_sL, gR_sD, gA_sI, gA_sR, gA_sQ, gA_sL, gA_sD, gQ_sI, gQ_sR, gQ_sA, gQ_sL, gQ_sD, gL_sI, gL_sR, gL_sA, gL_sQ, gL_sD, kd_nO, kd_nA, *]) (by first | rfl | assumption) (by first | rfl | assumption) ?_
        refine r_aload_n (i := 0) dX3_shortest_31 rfl rfl ?_
        refine r_getI dX3_shortest_32 fR_X3_66 (by first | assumption | (simp only [kd_sI, kd_sR, kd_sA, kd_sQ, kd_sL, kd_sD, ln_sI, ln_sR, ln_sA, ln_sQ, ln_sL, ln_sD, gI_sR, gI_sA, gI_sQ, gI_sL, gI_sD, gR_sI, gR_sA, gR_sQ, gR_sL, gR_sD, gA_sI, gA_sR, gA_sQ, gA_sL, gA_sD, gQ_sI, gQ_sR, gQ_sA, gQ_sL, gQ_sD, gL_sI, gL_sR, gL_sA, gL_sQ, gL_sD]; assumption) | simp [kd_sI, kd_sR, kd_sA, kd_sQ, kd_sL, kd_sD, ln_sI, ln_sR, ln_sA, ln_sQ, ln_sL, ln_sD, gI_sR, gI_sA, gI_sQ, gI_sL, gI_sD, gR_sI, gR_sA, gR_sQ, gR_sL, gR_sD, gA_sI, gA_sR, gA_sQ, gA_sL, gA_sD, gQ_sI, gQ_sR, gQ_sA, gQ_sL, gQ_sD, gL_sI, gL_sR, gL_sA, gL_sQ, gL_sD, kd_nO, kd_nA, *]) (by first | assumption | exact gI_sIs | exact gR_sRs | with_reducible rfl | (simp only [kd_sI, kd_sR, kd_sA, kd_sQ, kd_sL, kd_sD, ln_sI, ln_sR, ln_sA, ln_sQ, ln_sL, ln_sD, gI_sR, gI_sA, gI_sQ, gI_sL, gI_sD, gR_sI, gR_sA, gR_sQ, gR_sL, gR_sD, gA_sI, gA_sR, gA_sQ, gA_sL, gA_sD, gQ_sI, gQ_sR, gQ_sA, gQ_sL, gQ_sD, gL_sI, gL_sR, gL_sA, gL_sQ, gL_sD]; first | done | assumption | with_reducible rfl) | rfl) ?_
        refine r_if_gt (tgt := 43) dX3_shortest_35 (by decide) (fun h35 => ?_) (fun h35 => ?_)
        · refine r_iconst (v := nI 0) dX3_shortest_43 (by decide) ?_
          refine r_ireturn dX3_shortest_44 rfl (by first | rfl | assumption | exact vp_nar_int _ | exact pk_nc _) ?_
          exact bad (by rw [bI_eq0.mp h20]; simp)
        · exact absurd (by decide) h35
      · have hq := bI_ne0 h20
        rw [show (isY (gA H 1068 (ma 68)) y && inB p (nI 0) (nI 7) && inB q (nI 0) (nI 7)) = true by rw [show isY (gA H 1068 (ma 68)) y = true from hy, hp, hq]; rfl, if_pos rfl] at hQ
        obtain ⟨j, hj, rfl, ej⟩ := inB_t hy hB.1 (by decide)
        obtain ⟨a, ha, rfl, ea⟩ := inB_c hp (by decide)
        obtain ⟨b, hb, rfl, eb⟩ := inB_c hq (by decide)
        rw [ej, ea, eb] at hQ
        refine r_iconst (v := nI 0) dX3_shortest_23 (by decide) ?_
        refine r_goto (tgt := 28) dX3_shortest_24 (by decide) ?_
        refine r_putI dX3_shortest_28 fG_X3_66 (fun _ => by first | rfl | contradiction) (by first | assumption | (simp only [kd_sI, kd_sR, kd_sA, kd_sQ, kd_sL, kd_sD, ln_sI, ln_sR, ln_sA, ln_sQ, ln_sL, ln_sD, gI_sR, gI_sA, gI_sQ, gI_sL, gI_sD, gR_sI, gR_sA, gR_sQ, gR_sL, gR_sD, gA_sI, gA_sR, gA_sQ, gA_sL, gA_sD, gQ_sI, gQ_sR, gQ_sA, gQ_sL, gQ_sD, gL_sI, gL_sR, gL_sA, gL_sQ, gL_sD]; assumption) | simp [kd_sI, kd_sR, kd_sA, kd_sQ, kd_sL, kd_sD, ln_sI, ln_sR, ln_sA, ln_sQ, ln_sL, ln_sD, gI_sR, gI_sA, gI_sQ, gI_sL, gI_sD, gR_sI, gR_sA, gR_sQ, gR_sL, gR_sD, gA_sI, gA_sR, gA_sQ, gA_sL, gA_sD, gQ_sI, gQ_sR, gQ_sA, gQ_sL, gQ_sD, gL_sI, gL_sR, gL_sA, gL_sQ, gL_sD, kd_nO, kd_nA, *]) (by first | rfl | assumption) (by first | rfl | assumption) ?_
        refine r_aload_n (i := 0) dX3_shortest_31 rfl rfl ?_
        refine r_getI dX3_shortest_32 fR_X3_66 (by first | assumption | (simp only [kd_sI, kd_sR, kd_sA, kd_sQ, kd_sL, kd_sD, ln_sI, ln_sR, ln_sA, ln_sQ, ln_sL, ln_sD, gI_sR, gI_sA, gI_sQ, gI_sL, gI_sD, gR_sI, gR_sA, gR_sQ, gR_sL, gR_sD, gA_sI, gA_sR, gA_sQ, gA_sL, gA_sD, gQ_sI, gQ_sR, gQ_sA, gQ_sL, gQ_sD, gL_sI, gL_sR, gL_sA, gL_sQ, gL_sD]; assumption) | simp [kd_sI, kd_sR, kd_sA, kd_sQ, kd_sL, kd_sD, ln_sI, ln_sR, ln_sA, ln_sQ, ln_sL, ln_sD, gI_sR, gI_sA, gI_sQ, gI_sL, gI_sD, gR_sI, gR_sA, gR_sQ, gR_sL, gR_sD, gA_sI, gA_sR, gA_sQ, gA_sL, gA_sD, gQ_sI, gQ_sR, gQ_sA, gQ_sL, gQ_sD, gL_sI, gL_sR, gL_sA, gL_sQ, gL_sD, kd_nO, kd_nA, *]) (by first | assumption | exact gI_sIs | exact gR_sRs | with_reducible rfl | (simp only [kd_sI, kd_sR, kd_sA, kd_sQ, kd_sL, kd_sD, ln_sI, ln_sR, ln_sA, ln_sQ, ln_sL, ln_sD, gI_sR, gI_sA, gI_sQ, gI_sL, gI_sD, gR_sI, gR_sA, gR_sQ, gR_sL, gR_sD, gA_sI, gA_sR, gA_sQ, gA_sL, gA_sD, gQ_sI, gQ_sR, gQ_sA, gQ_sL, gQ_sD, gL_sI, gL_sR, gL_sA, gL_sQ, gL_sD]; first | done | assumption | with_reducible rfl) | rfl) ?_
        refine r_if_gt (tgt := 43) dX3_shortest_35 (by decide) (fun h35 => ?_) (fun h35 => ?_)
        · exact absurd h35 (by decide)
        · refine r_iload_n (i := 2) dX3_shortest_38 rfl rfl ?_
          refine r_iload_n (i := 3) dX3_shortest_39 rfl rfl ?_
          refine r_icmp_ne (tgt := 45) dX3_shortest_40 (by decide) (fun h40 => ?_) (fun h40 => ?_)
          · have hab : a ≠ b := fun e => h40 (by rw [e])
            rw [if_neg h40] at hQ
            have hU1 : MU m ma [77, 78, 2078, 79, 80, 81, 82, 83] H (sI H 77 m (nI 0)) := MU.rf.sI (by decide) (by decide) (by decide)
            have hM1 := hM.mf hU1.1
            have e01 := hM1.1
            refine r_aload_n (i := 0) dX3_shortest_45 rfl rfl ?_
            refine r_iload_n (i := 1) dX3_shortest_46 rfl rfl ?_
            refine r_callV (As := [_]) (mc' := 0) (ms' := 0) dX3_shortest_47 k_X3_164 rfl (by first | assumption | (simp only [kd_sI, kd_sR, kd_sA, kd_sQ, kd_sL, kd_sD, ln_sI, ln_sR, ln_sA, ln_sQ, ln_sL, ln_sD, gI_sR, gI_sA, gI_sQ, gI_sL, gI_sD, gR_sI, gR_sA, gR_sQ, gR_sL, gR_sD, gA_sI, gA_sR, gA_sQ, gA_sL, gA_sD, gQ_sI, gQ_sR, gQ_sA, gQ_sL, gQ_sD, gL_sI, gL_sR, gL_sA, gL_sQ, gL_sD]; assumption) | simp [kd_sI, kd_sR, kd_sA, kd_sQ, kd_sL, kd_sD, ln_sI, ln_sR, ln_sA, ln_sQ, ln_sL, ln_sD, gI_sR, gI_sA, gI_sQ, gI_sL, gI_sD, gR_sI, gR_sA, gR_sQ, gR_sL, gR_sD, gA_sI, gA_sR, gA_sQ, gA_sL, gA_sD, gQ_sI, gQ_sR, gQ_sA, gQ_sL, gQ_sD, gL_sI, gL_sR, gL_sA, gL_sQ, gL_sD, kd_nO, kd_nA, *]) (T := TX3) (N := 27) rfl (by first | assumption | omega) (by first | assumption | omega) (by first | assumption | omega) (Nat.le_of_ble_eq_true rfl) ?_
            refine s_opens (ty := some j) (H := sI H 77 m (nI 0)) (by omega) hM1 hB (fun y hy => by cases hy; exact hj) ?_
            intro H2 hU2 ho2
            have hM2 := hM1.mf hU2.1
            have hg2 : gA H2 1068 (ma 68) = gA H 1068 (ma 68) := congrFun (hU2.g68 (by decide)) _
            have e02 := hM2.1
            refine r_aload_n (i := 0) dX3_shortest_50 rfl rfl ?_
            refine r_iload_n (i := 2) dX3_shortest_51 rfl rfl ?_
            refine r_iload_n (i := 3) dX3_shortest_52 rfl rfl ?_
            refine r_callV (As := [_, _]) (mc' := 0) (ms' := 0) dX3_shortest_53 k_X3_168 rfl (by first | assumption | (simp only [kd_sI, kd_sR, kd_sA, kd_sQ, kd_sL, kd_sD, ln_sI, ln_sR, ln_sA, ln_sQ, ln_sL, ln_sD, gI_sR, gI_sA, gI_sQ, gI_sL, gI_sD, gR_sI, gR_sA, gR_sQ, gR_sL, gR_sD, gA_sI, gA_sR, gA_sQ, gA_sL, gA_sD, gQ_sI, gQ_sR, gQ_sA, gQ_sL, gQ_sD, gL_sI, gL_sR, gL_sA, gL_sQ, gL_sD]; assumption) | simp [kd_sI, kd_sR, kd_sA, kd_sQ, kd_sL, kd_sD, ln_sI, ln_sR, ln_sA, ln_sQ, ln_sL, ln_sD, gI_sR, gI_sA, gI_sQ, gI_sL, gI_sD, gR_sI, gR_sA, gR_sQ, gR_sL, gR_sD, gA_sI, gA_sR, gA_sQ, gA_sL, gA_sD, gQ_sI, gQ_sR, gQ_sA, gQ_sL, gQ_sD, gL_sI, gL_sR, gL_sA, gL_sQ, gL_sD, kd_nO, kd_nA, *]) (T := TX3) (N := 27) rfl (by first | assumption | omega) (by first | assumption | omega) (by first | assumption | omega) (Nat.le_of_ble_eq_true rfl) ?_
            refine s_findsWay (by omega) hM2 hg2 hB hT ho2 (by omega) (by omega) hab ?_
            intro H3 hU3 hR3
            have hM3 := hM2.mf hU3.1
            have e03 := hM3.1
            have hU : MU m ma [77, 78, 2078, 79, 80, 81, 82, 83] H H3 := ((hU1.tr hU2).tr hU3).sub (by decide)
            have h77 : gI H3 77 m = nI 0 := by rw [(hU3.2 77 (by decide)).1, (hU2.2 77 (by decide)).1]; exact gI_sIs
            have hq9 := hQ H3 hU h77
            show AW mX3_shortest G d Qr Qx _ _ H3 56 _ _
            unfold wayB at hq9
            cases hb9 : dfs (gA H 1068 (ma 68)) (opB (gA H 1068 (ma 68)) (some j)) b 7 a (2 ^ a) [] (nI 0) none with
            | none =>
              have hr : BRep H3 m ma none := by rw [← hb9]; exact hR3
              unfold BRep at hr
              rw [hb9] at hq9
              refine r_aload_n (i := 0) dX3_shortest_56 rfl rfl ?_
              refine r_getI dX3_shortest_57 fR_X3_151 (by first | assumption | (simp only [kd_sI, kd_sR, kd_sA, kd_sQ, kd_sL, kd_sD, ln_sI, ln_sR, ln_sA, ln_sQ, ln_sL, ln_sD, gI_sR, gI_sA, gI_sQ, gI_sL, gI_sD, gR_sI, gR_sA, gR_sQ, gR_sL, gR_sD, gA_sI, gA_sR, gA_sQ, gA_sL, gA_sD, gQ_sI, gQ_sR, gQ_sA, gQ_sL, gQ_sD, gL_sI, gL_sR, gL_sA, gL_sQ, gL_sD]; assumption) | simp [kd_sI, kd_sR, kd_sA, kd_sQ, kd_sL, kd_sD, ln_sI, ln_sR, ln_sA, ln_sQ, ln_sL, ln_sD, gI_sR, gI_sA, gI_sQ, gI_sL, gI_sD, gR_sI, gR_sA, gR_sQ, gR_sL, gR_sD, gA_sI, gA_sR, gA_sQ, gA_sL, gA_sD, gQ_sI, gQ_sR, gQ_sA, gQ_sL, gQ_sD, gL_sI, gL_sR, gL_sA, gL_sQ, gL_sD, kd_nO, kd_nA, *]) (by first | assumption | exact gI_sIs | exact gR_sRs | with_reducible rfl | (simp only [kd_sI, kd_sR, kd_sA, kd_sQ, kd_sL, kd_sD, ln_sI, ln_sR, ln_sA, ln_sQ, ln_sL, ln_sD, gI_sR, gI_sA, gI_sQ, gI_sL, gI_sD, gR_sI, gR_sA, gR_sQ, gR_sL, gR_sD, gA_sI, gA_sR, gA_sQ, gA_sL, gA_sD, gQ_sI, gQ_sR, gQ_sA, gQ_sL, gQ_sD, gL_sI, gL_sR, gL_sA, gL_sQ, gL_sD]; first | done | assumption | with_reducible rfl) | rfl) ?_
              refine r_if_ne (tgt := 67) dX3_shortest_60 (by decide) (fun h60 => ?_) (fun h60 => ?_)
              · exact absurd (by decide) h60
              · refine r_iconst (v := -1) dX3_shortest_63 (by decide) ?_
                refine r_goto (tgt := 71) dX3_shortest_64 (by decide) ?_
                refine r_ireturn dX3_shortest_71 rfl (by first | rfl | assumption | exact vp_nar_int _ | exact pk_nc _) ?_
                exact hq9
            | some rs =>
              obtain ⟨r, s⟩ := rs
              have hr : BRep H3 m ma (some (r, s)) := by rw [← hb9]; exact hR3
              unfold BRep at hr
              obtain ⟨r1, r2, r3, r4, -⟩ := hr
              rw [hb9] at hq9
              have r0 : r.length ≠ 0 := fun e => r2 (List.length_eq_zero_iff.mp e)
              refine r_aload_n (i := 0) dX3_shortest_56 rfl rfl ?_
              refine r_getI dX3_shortest_57 fR_X3_151 (by first | assumption | (simp only [kd_sI, kd_sR, kd_sA, kd_sQ, kd_sL, kd_sD, ln_sI, ln_sR, ln_sA, ln_sQ, ln_sL, ln_sD, gI_sR, gI_sA, gI_sQ, gI_sL, gI_sD, gR_sI, gR_sA, gR_sQ, gR_sL, gR_sD, gA_sI, gA_sR, gA_sQ, gA_sL, gA_sD, gQ_sI, gQ_sR, gQ_sA, gQ_sL, gQ_sD, gL_sI, gL_sR, gL_sA, gL_sQ, gL_sD]; assumption) | simp [kd_sI, kd_sR, kd_sA, kd_sQ, kd_sL, kd_sD, ln_sI, ln_sR, ln_sA, ln_sQ, ln_sL, ln_sD, gI_sR, gI_sA, gI_sQ, gI_sL, gI_sD, gR_sI, gR_sA, gR_sQ, gR_sL, gR_sD, gA_sI, gA_sR, gA_sQ, gA_sL, gA_sD, gQ_sI, gQ_sR, gQ_sA, gQ_sL, gQ_sD, gL_sI, gL_sR, gL_sA, gL_sQ, gL_sD, kd_nO, kd_nA, *]) (by first | assumption | exact gI_sIs | exact gR_sRs | with_reducible rfl | (simp only [kd_sI, kd_sR, kd_sA, kd_sQ, kd_sL, kd_sD, ln_sI, ln_sR, ln_sA, ln_sQ, ln_sL, ln_sD, gI_sR, gI_sA, gI_sQ, gI_sL, gI_sD, gR_sI, gR_sA, gR_sQ, gR_sL, gR_sD, gA_sI, gA_sR, gA_sQ, gA_sL, gA_sD, gQ_sI, gQ_sR, gQ_sA, gQ_sL, gQ_sD, gL_sI, gL_sR, gL_sA, gL_sQ, gL_sD]; first | done | assumption | with_reducible rfl) | rfl) ?_
              refine r_if_ne (tgt := 67) dX3_shortest_60 (by decide) (fun h60 => ?_) (fun h60 => ?_)
              · refine r_aload_n (i := 0) dX3_shortest_67 rfl rfl ?_
                refine r_getI dX3_shortest_68 fR_X3_154 (by first | assumption | (simp only [kd_sI, kd_sR, kd_sA, kd_sQ, kd_sL, kd_sD, ln_sI, ln_sR, ln_sA, ln_sQ, ln_sL, ln_sD, gI_sR, gI_sA, gI_sQ, gI_sL, gI_sD, gR_sI, gR_sA, gR_sQ, gR_sL, gR_sD, gA_sI, gA_sR, gA_sQ, gA_sL, gA_sD, gQ_sI, gQ_sR, gQ_sA, gQ_sL, gQ_sD, gL_sI, gL_sR, gL_sA, gL_sQ, gL_sD]; assumption) | simp [kd_sI, kd_sR, kd_sA, kd_sQ, kd_sL, kd_sD, ln_sI, ln_sR, ln_sA, ln_sQ, ln_sL, ln_sD, gI_sR, gI_sA, gI_sQ, gI_sL, gI_sD, gR_sI, gR_sA, gR_sQ, gR_sL, gR_sD, gA_sI, gA_sR, gA_sQ, gA_sL, gA_sD, gQ_sI, gQ_sR, gQ_sA, gQ_sL, gQ_sD, gL_sI, gL_sR, gL_sA, gL_sQ, gL_sD, kd_nO, kd_nA, *]) (by first | assumption | exact gI_sIs | exact gR_sRs | with_reducible rfl | (simp only [kd_sI, kd_sR, kd_sA, kd_sQ, kd_sL, kd_sD, ln_sI, ln_sR, ln_sA, ln_sQ, ln_sL, ln_sD, gI_sR, gI_sA, gI_sQ, gI_sL, gI_sD, gR_sI, gR_sA, gR_sQ, gR_sL, gR_sD, gA_sI, gA_sR, gA_sQ, gA_sL, gA_sD, gQ_sI, gQ_sR, gQ_sA, gQ_sL, gQ_sD, gL_sI, gL_sR, gL_sA, gL_sQ, gL_sD]; first | done | assumption | with_reducible rfl) | rfl) ?_
                refine r_ireturn dX3_shortest_71 rfl (by first | rfl | assumption | exact vp_nar_int _ | exact pk_nc _) ?_
                exact hq9
              · exact absurd h60 (nI_ne0 (by omega) (by omega))
          · rw [if_pos h40] at hQ
            refine r_iconst (v := nI 0) dX3_shortest_43 (by decide) ?_
            refine r_ireturn dX3_shortest_44 rfl (by first | rfl | assumption | exact vp_nar_int _ | exact pk_nc _) ?_
            exact hQ _ (MU.rf.sI (by decide) (by decide) (by decide)) gI_sIs
end Mo9
