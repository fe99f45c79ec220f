set_option maxRecDepth 100000
def GA (g : Nat → Int32) : Prop := ∀ c, c < nat g 101 → g (105 + 21 * c) = 0 → nat g (106 + 21 * c) = 0
def wF : List Nat := [68, 73, 74, 75, 76, 77, 78, 2078, 79, 80, 81, 82, 83]
abbrev VRes : Type := URes × List Int32
def PV (m : Nat) (ma : Nat → Nat) (Qr : Option AV → AH → Prop) (H : AH) (r : VRes) : Prop := ∀ H', MU m ma wF H H' → gI H' 77 m = nI r.1.1 → gA H' 1068 (ma 68) = r.1.2.2.1 → PastR H' m ma r.1.2.2.2 → ChR H' m ma r.2 → Qr (some (vI r.1.2.1)) H'
def u_route (tx : Bool) (g : Nat → Int32) (L : List (Nat → Int32)) (Ch : List Int32) (c : Int32) : VRes :=
  if isC g c = false then ((1, nI 0, g, L), [nI 1, c])
  else if g (105 + 21 * c.toNatClampNeg) = 0 then
    match wayB g (some (nat g (102 + 21 * c.toNatClampNeg))) (nat g (103 + 21 * c.toNatClampNeg)) (nat g (104 + 21 * c.toNatClampNeg)) with
    | none => ((1, nI 0, g, L), q_refuse g c.toNatClampNeg)
    | some (r, _) => ((0, q_need (routeG g c.toNatClampNeg r) c.toNatClampNeg, routeG g c.toNatClampNeg r, chgL tx L g), Ch)
  else ((1, nI 0, g, L), [nI 2, g (105 + 21 * c.toNatClampNeg)])
theorem place_lt {g : Nat → Int32} {t ty x : Nat} (h : q_place g t ty = some x) : x < nat g (45 + 5 * t) := by
  unfold q_place at h
  split at h
  · rename_i k hk
    cases h
    have := (find9_lt hk).2.1
    omega
  · have := (find9_lt h).2.1
    omega
def rtF (g : Nat → Int32) (c : Nat) (r : List Nat) (k : Nat) : Nat → Int32 := fun i => if 109 + 21 * c ≤ i ∧ i < 109 + 21 * c + k then nI (r.getD (i - (109 + 21 * c)) 0) else if 116 + 21 * c ≤ i ∧ i < 116 + 21 * c + k then oI (q_place g (r.getD (i - (116 + 21 * c)) 0) (nat g (102 + 21 * c))) else g i
theorem rtF_0 {g : Nat → Int32} {c : Nat} {r : List Nat} : rtF g c r 0 = g := by
  funext i
  unfold rtF
  rw [if_neg (by omega), if_neg (by omega)]
theorem rtF_s {g : Nat → Int32} {c k : Nat} {r : List Nat} (hk : k < 7) : upd (upd (rtF g c r k) (116 + 21 * c + k) (oI (q_place g (r.getD k 0) (nat g (102 + 21 * c))))) (109 + 21 * c + k) (nI (r.getD k 0)) = rtF g c r (k + 1) := by
  funext i
  unfold upd rtF
  by_cases h1 : i = 109 + 21 * c + k
  · rw [if_pos h1, if_pos (by omega), h1, Nat.add_sub_cancel_left]
  · rw [if_neg h1]
    by_cases h2 : i = 116 + 21 * c + k
    · rw [if_pos h2, if_neg (by omega), if_pos (by omega), h2, Nat.add_sub_cancel_left]
    · rw [if_neg h2]
      by_cases h3 : 109 + 21 * c ≤ i ∧ i < 109 + 21 * c + k
      · rw [if_pos h3, if_pos (by omega)]
      · rw [if_neg h3, if_neg (show ¬ (109 + 21 * c ≤ i ∧ i < 109 + 21 * c + (k + 1)) by omega)]
        by_cases h4 : 116 + 21 * c ≤ i ∧ i < 116 + 21 * c + k
        · rw [if_pos h4, if_pos (by omega)]
        · rw [if_neg h4, if_neg (by omega)]
theorem rtF_e {g : Nat → Int32} {c : Nat} {r : List Nat} (hl : r.length ≤ 7) : upd (upd (rtF g c r r.length) (106 + 21 * c) (nI r.length)) (105 + 21 * c) (nI 1) = routeG g c r := by
  funext i
  unfold upd rtF routeG
  rfl
theorem rtF_out {g : Nat → Int32} {c k : Nat} {r : List Nat} (hk : k ≤ 7) : ∀ i, ¬ (109 + 21 * c ≤ i ∧ i < 123 + 21 * c) → rtF g c r k i = g i := by
  intro i hi
  unfold rtF
  rw [if_neg (by omega), if_neg (by omega)]
theorem GB_cg {g g' : Nat → Int32} {c0 : Nat} (hB : GB g) (h0 : nat g (106 + 21 * c0) = 0) (h : ∀ i, ¬ (109 + 21 * c0 ≤ i ∧ i < 123 + 21 * c0) → g' i = g i) (hc : c0 < nat g 101) : GB g' := by
  obtain ⟨b1, b2, b3, b4, b5, b6⟩ := hB
  have hC := b3.2
  have hR := b2.2
  have e40 : g' 40 = g 40 := h 40 (by omega)
  have e101 : g' 101 = g 101 := h 101 (by omega)
  refine ⟨isN_eq (h 3 (by omega)) b1, isN_eq e40 b2, isN_eq e101 b3, isN_eq (h 354 (by omega)) b4, ?_, ?_⟩
  · intro t ht
    rw [nat_eq e40] at ht
    have e := h (45 + 5 * t) (by omega)
    rw [nat_eq e]
    exact ⟨isN_eq e (b5 t ht).1, (b5 t ht).2⟩
  · intro c hc
    rw [nat_eq e101] at hc
    obtain ⟨d1, d2, d3⟩ := b6 c hc
    have := d2.2
    rw [nat_eq (h 3 (by omega)), nat_eq e40, nat_eq (h (106 + 21 * c) (by omega))]
    refine ⟨isN_eq (h _ (by omega)) d1, isN_eq (h _ (by omega)) d2, ?_⟩
    intro k hk
    have hcc : c ≠ c0 := by
      intro e
      rw [e, h0] at hk
      omega
    exact isN_eq (h _ (by omega)) (d3 k hk)
section Mo15
variable {G : Gl} {d m : Nat} {ma : Nat → Nat} {Qr : Option AV → AH → Prop} {Qx : String → Nat → AH → Prop} {H : AH}
theorem s_refusesWay {c : Nat} (hd : 6 ≤ d) (hM : MO H m ma) (hB : GB (gA H 1068 (ma 68))) (hT : GT (gA H 1068 (ma 68))) (hC : GC (gA H 1068 (ma 68))) (hc : c < nat (gA H 1068 (ma 68)) 101)
    (hQ : ∀ H', MU m ma [75, 76, 77, 78, 2078, 79, 80, 81, 82, 83] H H' → gI H' 77 m = nI 1 → ChR H' m ma (q_refuse (gA H 1068 (ma 68)) c) → Qr (some (vI (nI 0))) H') : AMet G d 0 0 yX3_refusesWay wX3_refusesWay H [vR (some m), vI (nI c)] Qr Qx := by
  have e0 := hM.1
  obtain ⟨g, hg⟩ := ex_val (gA H 1068 (ma 68))
  rw [← hg] at hT hC hc hQ
  have hB' : GB g := by rw [hg]; exact hB
  obtain ⟨⟨f1, f2⟩, ⟨t1, t2⟩, hft⟩ := hC c hc
  obtain ⟨⟨y1, y2⟩, -, -⟩ := hB'.2.2.2.2.2 c hc
  obtain ⟨hR1, hR2⟩ := hB'.2.1
  have hC2 := hB'.2.2.1.2
  have hY2 := hB'.1.2
  obtain ⟨R, hR⟩ := ex_val (nat g 40)
  rw [← hR] at hR1 hR2
  refine AMet.of (M := mX3_refusesWay) (maxL := 3) rfl rfl (Nat.le_of_ble_eq_true rfl) ?_
  show AW mX3_refusesWay _ _ _ _ _ _ _ 0 [some (vR (some m)), some (vI (nI c)), none] []
  refine r_aload_n (i := 0) dX3_refusesWay_0 rfl rfl ?_
  refine r_iconst (v := -1) dX3_refusesWay_1 (by decide) ?_
  refine r_callV (As := [_]) (mc' := 0) (ms' := 0) dX3_refusesWay_2 k_X3_164 rfl (by first | assumption | (simp only [kd_sI, kd_sR, kd_sA, kd_sQ, kd_sL, kd_sD, ln_sI, ln_sR, ln_sA, ln_sQ, ln_sL, ln_sD, gI_sR, gI_sA, gI_sQ, gI_sL, gI_sD, gR_sI, gR_sA, gR_sQ, gR_sL, gR_sD, gA_sI, gA_sR, gA_sQ, gA_sL, gA_sD, gQ_sI, gQ_sR, gQ_sA, gQ_sL, gQ_sD, gL_sI, gL_sR, gL_sA, gL_sQ, gL_sD]; assumption) | simp [kd_sI, kd_sR, kd_sA, kd_sQ, kd_sL, kd_sD, ln_sI, ln_sR, ln_sA, ln_sQ, ln_sL, ln_sD, gI_sR, gI_sA, gI_sQ, gI_sL, gI_sD, gR_sI, gR_sA, gR_sQ, gR_sL, gR_sD, gA_sI, gA_sR, gA_sQ, gA_sL, gA_sD, gQ_sI, gQ_sR, gQ_sA, gQ_sL, gQ_sD, gL_sI, gL_sR, gL_sA, gL_sQ, gL_sD, kd_nO, kd_nA, *]) (T := TX3) (N := 27) rfl (by first | assumption | omega) (by first | assumption | omega) (by first | assumption | omega) (Nat.le_of_ble_eq_true rfl) ?_
  refine s_opens (ty := none) (by omega) hM hB (fun y hy => by cases hy) ?_
  intro H1 hU1 ho1
  have hM1 := hM.mf hU1.1
  have e01 := hM1.1
  have hg1 : gA H1 1068 (ma 68) = g := by rw [hg]; exact congrFun (hU1.g68 (by decide)) _
  rw [← hg] at ho1
  show AW mX3_refusesWay G d Qr Qx _ _ H1 5 _ _
  refine r_aload_n (i := 0) dX3_refusesWay_5 rfl rfl ?_
  refine r_aload_n (i := 0) dX3_refusesWay_6 rfl rfl ?_
  refine r_iload_n (i := 1) dX3_refusesWay_7 rfl rfl ?_
  refine r_iconst (v := nI 1) dX3_refusesWay_8 (by decide) ?_
  refine r_callV (As := [_, _]) (mc' := 0) (ms' := 0) dX3_refusesWay_9 k_X3_105 rfl (by first | assumption | (simp only [kd_sI, kd_sR, kd_sA, kd_sQ, kd_sL, kd_sD, ln_sI, ln_sR, ln_sA, ln_sQ, ln_sL, ln_sD, gI_sR, gI_sA, gI_sQ, gI_sL, gI_sD, gR_sI, gR_sA, gR_sQ, gR_sL, gR_sD, gA_sI, gA_sR, gA_sQ, gA_sL, gA_sD, gQ_sI, gQ_sR, gQ_sA, gQ_sL, gQ_sD, gL_sI, gL_sR, gL_sA, gL_sQ, gL_sD]; assumption) | simp [kd_sI, kd_sR, kd_sA, kd_sQ, kd_sL, kd_sD, ln_sI, ln_sR, ln_sA, ln_sQ, ln_sL, ln_sD, gI_sR, gI_sA, gI_sQ, gI_sL, gI_sD, gR_sI, gR_sA, gR_sQ, gR_sL, gR_sD, gA_sI, gA_sR, gA_sQ, gA_sL, gA_sD, gQ_sI, gQ_sR, gQ_sA, gQ_sL, gQ_sD, gL_sI, gL_sR, gL_sA, gL_sQ, gL_sD, kd_nO, kd_nA, *]) (T := TX3) (N := 27) rfl (by first | assumption | omega) (by first | assumption | omega) (by first | assumption | omega) (Nat.le_of_ble_eq_true rfl) ?_
  refine s_cableTold (by omega) hM1 (by omega) ?_
  rw [hg1, show 102 + 21 * c + 1 = 103 + 21 * c by omega, f1]
  refine r_aload_n (i := 0) dX3_refusesWay_12 rfl rfl ?_
  refine r_iload_n (i := 1) dX3_refusesWay_13 rfl rfl ?_
  refine r_iconst (v := nI 2) dX3_refusesWay_14 (by decide) ?_
  refine r_callV (As := [_, _]) (mc' := 0) (ms' := 0) dX3_refusesWay_15 k_X3_105 rfl (by first | assumption | (simp only [kd_sI, kd_sR, kd_sA, kd_sQ, kd_sL, kd_sD, ln_sI, ln_sR, ln_sA, ln_sQ, ln_sL, ln_sD, gI_sR, gI_sA, gI_sQ, gI_sL, gI_sD, gR_sI, gR_sA, gR_sQ, gR_sL, gR_sD, gA_sI, gA_sR, gA_sQ, gA_sL, gA_sD, gQ_sI, gQ_sR, gQ_sA, gQ_sL, gQ_sD, gL_sI, gL_sR, gL_sA, gL_sQ, gL_sD]; assumption) | simp [kd_sI, kd_sR, kd_sA, kd_sQ, kd_sL, kd_sD, ln_sI, ln_sR, ln_sA, ln_sQ, ln_sL, ln_sD, gI_sR, gI_sA, gI_sQ, gI_sL, gI_sD, gR_sI, gR_sA, gR_sQ, gR_sL, gR_sD, gA_sI, gA_sR, gA_sQ, gA_sL, gA_sD, gQ_sI, gQ_sR, gQ_sA, gQ_sL, gQ_sD, gL_sI, gL_sR, gL_sA, gL_sQ, gL_sD, kd_nO, kd_nA, *]) (T := TX3) (N := 27) rfl (by first | assumption | omega) (by first | assumption | omega) (by first | assumption | omega) (Nat.le_of_ble_eq_true rfl) ?_
  refine s_cableTold (by omega) hM1 (by omega) ?_
  rw [hg1, show 102 + 21 * c + 2 = 104 + 21 * c by omega, t1]
  refine r_callV (As := [_, _]) (mc' := 0) (ms' := 0) dX3_refusesWay_18 k_X3_168 rfl (by first | assumption | (simp only [kd_sI, kd_sR, kd_sA, kd_sQ, kd_sL, kd_sD, ln_sI, ln_sR, ln_sA, ln_sQ, ln_sL, ln_sD, gI_sR, gI_sA, gI_sQ, gI_sL, gI_sD, gR_sI, gR_sA, gR_sQ, gR_sL, gR_sD, gA_sI, gA_sR, gA_sQ, gA_sL, gA_sD, gQ_sI, gQ_sR, gQ_sA, gQ_sL, gQ_sD, gL_sI, gL_sR, gL_sA, gL_sQ, gL_sD]; assumption) | simp [kd_sI, kd_sR, kd_sA, kd_sQ, kd_sL, kd_sD, ln_sI, ln_sR, ln_sA, ln_sQ, ln_sL, ln_sD, gI_sR, gI_sA, gI_sQ, gI_sL, gI_sD, gR_sI, gR_sA, gR_sQ, gR_sL, gR_sD, gA_sI, gA_sR, gA_sQ, gA_sL, gA_sD, gQ_sI, gQ_sR, gQ_sA, gQ_sL, gQ_sD, gL_sI, gL_sR, gL_sA, gL_sQ, gL_sD, kd_nO, kd_nA, *]) (T := TX3) (N := 27) rfl (by first | assumption | omega) (by first | assumption | omega) (by first | assumption | omega) (Nat.le_of_ble_eq_true rfl) ?_
  refine s_findsWay (by omega) hM1 hg1 hB' hT ho1 f2 t2 hft ?_
  intro H2 hU2 hR2'
  have hU12 : MU m ma [75, 76, 77, 78, 2078, 79, 80, 81, 82, 83] H H2 := (hU1.tr hU2).sub (by decide)
  have hM2 := hM.mf hU12.1
  have e02 := hM2.1
  have hg2 : gA H2 1068 (ma 68) = g := by rw [hg]; exact congrFun (hU12.g68 (by decide)) _
  show AW mX3_refusesWay G d Qr Qx _ _ H2 21 _ _
  unfold q_refuse wayB at hQ
  cases hb9 : dfs g (opB g none) (nat g (104 + 21 * c)) 7 (nat g (103 + 21 * c)) (2 ^ nat g (103 + 21 * c)) [] (nI 0) none with
  | none =>
    have hr : BRep H2 m ma none := by rw [← hb9]; exact hR2'
    unfold BRep at hr
    rw [hb9] at hQ
    refine r_aload_n (i := 0) dX3_refusesWay_21 rfl rfl ?_
    refine r_getI dX3_refusesWay_22 fR_X3_151 (by first | assumption | (simp only [kd_sI, kd_sR, kd_sA, kd_sQ, kd_sL, kd_sD, ln_sI, ln_sR, ln_sA, ln_sQ, ln_sL, ln_sD, gI_sR, gI_sA, gI_sQ, gI_sL, gI_sD, gR_sI, gR_sA, gR_sQ, gR_sL, gR_sD, gA_sI, gA_sR, gA_sQ, gA_sL, gA_sD, gQ_sI, gQ_sR, gQ_sA, gQ_sL, gQ_sD, gL_sI, gL_sR, gL_sA, gL_sQ, gL_sD]; assumption) | simp [kd_sI, kd_sR, kd_sA, kd_sQ, kd_sL, kd_sD, ln_sI, ln_sR, ln_sA, ln_sQ, ln_sL, ln_sD, gI_sR, gI_sA, gI_sQ, gI_sL, gI_sD, gR_sI, gR_sA, gR_sQ, gR_sL, gR_sD, gA_sI, gA_sR, gA_sQ, gA_sL, gA_sD, gQ_sI, gQ_sR, gQ_sA, gQ_sL, gQ_sD, gL_sI, gL_sR, gL_sA, gL_sQ, gL_sD, kd_nO, kd_nA, *]) (by first | assumption | exact gI_sIs | exact gR_sRs | with_reducible rfl | (simp only [kd_sI, kd_sR, kd_sA, kd_sQ, kd_sL, kd_sD, ln_sI, ln_sR, ln_sA, ln_sQ, ln_sL, ln_sD, gI_sR, gI_sA, gI_sQ, gI_sL, gI_sD, gR_sI, gR_sA, gR_sQ, gR_sL, gR_sD, gA_sI, gA_sR, gA_sQ, gA_sL, gA_sD, gQ_sI, gQ_sR, gQ_sA, gQ_sL, gQ_sD, gL_sI, gL_sR, gL_sA, gL_sQ, gL_sD]; first | done | assumption | with_reducible rfl) | rfl) ?_
    refine r_if_ne (tgt := 59) dX3_refusesWay_25 (by decide) (fun h25 => ?_) (fun h25 => ?_)
    · exact absurd (by decide) h25
    · refine r_aload_n (i := 0) dX3_refusesWay_28 rfl rfl ?_
      refine r_iconst (v := nI 3) dX3_refusesWay_29 (by decide) ?_
      refine r_aload_n (i := 0) dX3_refusesWay_30 rfl rfl ?_
      refine r_iload_n (i := 1) dX3_refusesWay_31 rfl rfl ?_
      refine r_iconst (v := nI 1) dX3_refusesWay_32 (by decide) ?_
      refine r_callV (As := [_, _]) (mc' := 0) (ms' := 0) dX3_refusesWay_33 k_X3_105 rfl (by first | assumption | (simp only [kd_sI, kd_sR, kd_sA, kd_sQ, kd_sL, kd_sD, ln_sI, ln_sR, ln_sA, ln_sQ, ln_sL, ln_sD, gI_sR, gI_sA, gI_sQ, gI_sL, gI_sD, gR_sI, gR_sA, gR_sQ, gR_sL, gR_sD, gA_sI, gA_sR, gA_sQ, gA_sL, gA_sD, gQ_sI, gQ_sR, gQ_sA, gQ_sL, gQ_sD, gL_sI, gL_sR, gL_sA, gL_sQ, gL_sD]; assumption) | simp [kd_sI, kd_sR, kd_sA, kd_sQ, kd_sL, kd_sD, ln_sI, ln_sR, ln_sA, ln_sQ, ln_sL, ln_sD, gI_sR, gI_sA, gI_sQ, gI_sL, gI_sD, gR_sI, gR_sA, gR_sQ, gR_sL, gR_sD, gA_sI, gA_sR, gA_sQ, gA_sL, gA_sD, gQ_sI, gQ_sR, gQ_sA, gQ_sL, gQ_sD, gL_sI, gL_sR, gL_sA, gL_sQ, gL_sD, kd_nO, kd_nA, *]) (T := TX3) (N := 27) rfl (by first | assumption | omega) (by first | assumption | omega) (by first | assumption | omega) (Nat.le_of_ble_eq_true rfl) ?_
      refine s_cableTold (by omega) hM2 (by omega) ?_
      rw [hg2, show 102 + 21 * c + 1 = 103 + 21 * c by omega]
      refine r_callV (As := [_, _]) (mc' := 0) (ms' := 0) dX3_refusesWay_36 k_X3_181 rfl (by first | assumption | (simp only [kd_sI, kd_sR, kd_sA, kd_sQ, kd_sL, kd_sD, ln_sI, ln_sR, ln_sA, ln_sQ, ln_sL, ln_sD, gI_sR, gI_sA, gI_sQ, gI_sL, gI_sD, gR_sI, gR_sA, gR_sQ, gR_sL, gR_sD, gA_sI, gA_sR, gA_sQ, gA_sL, gA_sD, gQ_sI, gQ_sR, gQ_sA, gQ_sL, gQ_sD, gL_sI, gL_sR, gL_sA, gL_sQ, gL_sD]; assumption) | simp [kd_sI, kd_sR, kd_sA, kd_sQ, kd_sL, kd_sD, ln_sI, ln_sR, ln_sA, ln_sQ, ln_sL, ln_sD, gI_sR, gI_sA, gI_sQ, gI_sL, gI_sD, gR_sI, gR_sA, gR_sQ, gR_sL, gR_sD, gA_sI, gA_sR, gA_sQ, gA_sL, gA_sD, gQ_sI, gQ_sR, gQ_sA, gQ_sL, gQ_sD, gL_sI, gL_sR, gL_sA, gL_sQ, gL_sD, kd_nO, kd_nA, *]) (T := TX3) (N := 27) rfl (by first | assumption | omega) (by first | assumption | omega) (by first | assumption | omega) (Nat.le_of_ble_eq_true rfl) ?_
      refine s_refuses (by omega) hM2 ?_
      intro H3 hU3 hR3 h77
      have hM3 := hM2.mf hU3.1
      have e03 := hM3.1
      have hg3 : gA H3 1068 (ma 68) = g := by rw [← hg2]; exact congrFun (hU3.g68 (by decide)) _
      obtain ⟨e75a_3, e75b_3, e75c_3⟩ : gR H3 75 m = some (ma 75) ∧ kd H3 (ma 75) = 1075 ∧ ln H3 (ma 75) = 16 := hM3.2 75 (by decide)
      show AW mX3_refusesWay G d Qr Qx _ _ H3 39 _ _
      refine r_pop dX3_refusesWay_39 rfl ?_
      refine r_aload_n (i := 0) dX3_refusesWay_40 rfl rfl ?_
      refine r_getR dX3_refusesWay_41 fR_X3_22 (by first | assumption | (simp only [kd_sI, kd_sR, kd_sA, kd_sQ, kd_sL, kd_sD, ln_sI, ln_sR, ln_sA, ln_sQ, ln_sL, ln_sD, gI_sR, gI_sA, gI_sQ, gI_sL, gI_sD, gR_sI, gR_sA, gR_sQ, gR_sL, gR_sD, gA_sI, gA_sR, gA_sQ, gA_sL, gA_sD, gQ_sI, gQ_sR, gQ_sA, gQ_sL, gQ_sD, gL_sI, gL_sR, gL_sA, gL_sQ, gL_sD]; assumption) | simp [kd_sI, kd_sR, kd_sA, kd_sQ, kd_sL, kd_sD, ln_sI, ln_sR, ln_sA, ln_sQ, ln_sL, ln_sD, gI_sR, gI_sA, gI_sQ, gI_sL, gI_sD, gR_sI, gR_sA, gR_sQ, gR_sL, gR_sD, gA_sI, gA_sR, gA_sQ, gA_sL, gA_sD, gQ_sI, gQ_sR, gQ_sA, gQ_sL, gQ_sD, gL_sI, gL_sR, gL_sA, gL_sQ, gL_sD, kd_nO, kd_nA, *]) (by first | assumption | exact gI_sIs | exact gR_sRs | with_reducible rfl | (simp only [kd_sI, kd_sR, kd_sA, kd_sQ, kd_sL, kd_sD, ln_sI, ln_sR, ln_sA, ln_sQ, ln_sL, ln_sD, gI_sR, gI_sA, gI_sQ, gI_sL, gI_sD, gR_sI, gR_sA, gR_sQ, gR_sL, gR_sD, gA_sI, gA_sR, gA_sQ, gA_sL, gA_sD, gQ_sI, gQ_sR, gQ_sA, gQ_sL, gQ_sD, gL_sI, gL_sR, gL_sA, gL_sQ, gL_sD]; first | done | assumption | with_reducible rfl) | rfl) ?_
      refine r_iconst (v := nI 2) dX3_refusesWay_44 (by decide) ?_
      refine r_aload_n (i := 0) dX3_refusesWay_45 rfl rfl ?_
      refine r_iload_n (i := 1) dX3_refusesWay_46 rfl rfl ?_
      refine r_iconst (v := nI 2) dX3_refusesWay_47 (by decide) ?_
      refine r_callV (As := [_, _]) (mc' := 0) (ms' := 0) dX3_refusesWay_48 k_X3_105 rfl (by first | assumption | (simp only [kd_sI, kd_sR, kd_sA, kd_sQ, kd_sL, kd_sD, ln_sI, ln_sR, ln_sA, ln_sQ, ln_sL, ln_sD, gI_sR, gI_sA, gI_sQ, gI_sL, gI_sD, gR_sI, gR_sA, gR_sQ, gR_sL, gR_sD, gA_sI, gA_sR, gA_sQ, gA_sL, gA_sD, gQ_sI, gQ_sR, gQ_sA, gQ_sL, gQ_sD, gL_sI, gL_sR, gL_sA, gL_sQ, gL_sD]; assumption) | simp [kd_sI, kd_sR, kd_sA, kd_sQ, kd_sL, kd_sD, ln_sI, ln_sR, ln_sA, ln_sQ, ln_sL, ln_sD, gI_sR, gI_sA, gI_sQ, gI_sL, gI_sD, gR_sI, gR_sA, gR_sQ, gR_sL, gR_sD, gA_sI, gA_sR, gA_sQ, gA_sL, gA_sD, gQ_sI, gQ_sR, gQ_sA, gQ_sL, gQ_sD, gL_sI, gL_sR, gL_sA, gL_sQ, gL_sD, kd_nO, kd_nA, *]) (T := TX3) (N := 27) rfl (by first | assumption | omega) (by first | assumption | omega) (by first | assumption | omega) (Nat.le_of_ble_eq_true rfl) ?_
      refine s_cableTold (by omega) hM3 (by omega) ?_
      rw [hg3, show 102 + 21 * c + 2 = 104 + 21 * c by omega]
      refine r_iast dX3_refusesWay_51 (by first | assumption | (simp only [kd_sI, kd_sR, kd_sA, kd_sQ, kd_sL, kd_sD, ln_sI, ln_sR, ln_sA, ln_sQ, ln_sL, ln_sD, gI_sR, gI_sA, gI_sQ, gI_sL, gI_sD, gR_sI, gR_sA, gR_sQ, gR_sL, gR_sD, gA_sI, gA_sR, gA_sQ, gA_sL, gA_sD, gQ_sI, gQ_sR, gQ_sA, gQ_sL, gQ_sD, gL_sI, gL_sR, gL_sA, gL_sQ, gL_sD]; assumption) | simp [kd_sI, kd_sR, kd_sA, kd_sQ, kd_sL, kd_sD, ln_sI, ln_sR, ln_sA, ln_sQ, ln_sL, ln_sD, gI_sR, gI_sA, gI_sQ, gI_sL, gI_sD, gR_sI, gR_sA, gR_sQ, gR_sL, gR_sD, gA_sI, gA_sR, gA_sQ, gA_sL, gA_sD, gQ_sI, gQ_sR, gQ_sA, gQ_sL, gQ_sD, gL_sI, gL_sR, gL_sA, gL_sQ, gL_sD, kd_nO, kd_nA, *]) (by first | decide | assumption) (by first | assumption | exact gI_sIs | exact gR_sRs | with_reducible rfl | (simp only [kd_sI, kd_sR, kd_sA, kd_sQ, kd_sL, kd_sD, ln_sI, ln_sR, ln_sA, ln_sQ, ln_sL, ln_sD, gI_sR, gI_sA, gI_sQ, gI_sL, gI_sD, gR_sI, gR_sA, gR_sQ, gR_sL, gR_sD, gA_sI, gA_sR, gA_sQ, gA_sL, gA_sD, gQ_sI, gQ_sR, gQ_sA, gQ_sL, gQ_sD, gL_sI, gL_sR, gL_sA, gL_sQ, gL_sD]; first | done | assumption | with_reducible rfl) | rfl) (by first | with_reducible rfl | assumption | (simp only [nI_add, pk_mul, nI_1]; with_reducible rfl)) (by first | assumption | omega) (by first | assumption | omega) ?_
      refine r_aload_n (i := 0) dX3_refusesWay_52 rfl rfl ?_
      refine r_iconst (v := nI 3) dX3_refusesWay_53 (by decide) ?_
      refine r_putI dX3_refusesWay_54 fG_X3_172 (fun _ => by first | rfl | contradiction) (by first | assumption | (simp only [kd_sI, kd_sR, kd_sA, kd_sQ, kd_sL, kd_sD, ln_sI, ln_sR, ln_sA, ln_sQ, ln_sL, ln_sD, gI_sR, gI_sA, gI_sQ, gI_sL, gI_sD, gR_sI, gR_sA, gR_sQ, gR_sL, gR_sD, gA_sI, gA_sR, gA_sQ, gA_sL, gA_sD, gQ_sI, gQ_sR, gQ_sA, gQ_sL, gQ_sD, gL_sI, gL_sR, gL_sA, gL_sQ, gL_sD]; assumption) | simp [kd_sI, kd_sR, kd_sA, kd_sQ, kd_sL, kd_sD, ln_sI, ln_sR, ln_sA, ln_sQ, ln_sL, ln_sD, gI_sR, gI_sA, gI_sQ, gI_sL, gI_sD, gR_sI, gR_sA, gR_sQ, gR_sL, gR_sD, gA_sI, gA_sR, gA_sQ, gA_sL, gA_sD, gQ_sI, gQ_sR, gQ_sA, gQ_sL, gQ_sD, gL_sI, gL_sR, gL_sA, gL_sQ, gL_sD, kd_nO, kd_nA, *]) (by first | rfl | assumption) (by first | rfl | assumption) ?_
      refine r_iconst (v := nI 0) dX3_refusesWay_57 (by decide) ?_
      refine r_ireturn dX3_refusesWay_58 rfl (by first | rfl | assumption | exact vp_nar_int _ | exact pk_nc _) ?_
      refine hQ _ ((((hU12.tr hU3).sub (by decide)).sA (f := 75) (Or.inl (by decide)) (by decide) (by decide)).sI (f := 76) (by decide) (by decide) (by decide)) (by rw [gI_sI, if_neg (by omega)]; exact h77) ?_
      obtain ⟨-, -, r3⟩ := hR3
      refine ⟨gI_sIs, by simp, ?_⟩
      intro k hk
      show gA (sA H3 1075 (ma 75) _) 1075 (ma 75) k = _
      rw [gA_sAs]
      unfold upd
      have hk3 : k < 3 := hk
      by_cases h2 : k = 2
      · rw [if_pos h2, h2]; rfl
      · rw [if_neg h2, r3 k (by show k < 2; omega)]
        rcases (show k = 0 ∨ k = 1 by omega) with rfl | rfl
        · rfl
        · rfl
  | some rs =>
    obtain ⟨r, s⟩ := rs
    have hr : BRep H2 m ma (some (r, s)) := by rw [← hb9]; exact hR2'
    unfold BRep at hr
    obtain ⟨r1, r2, r3, r4, -⟩ := hr
    rw [hb9] at hQ
    have r0 : r.length ≠ 0 := fun e => r2 (List.length_eq_zero_iff.mp e)
    refine r_aload_n (i := 0) dX3_refusesWay_21 rfl rfl ?_
    refine r_getI dX3_refusesWay_22 fR_X3_151 (by first | assumption | (simp only [kd_sI, kd_sR, kd_sA, kd_sQ, kd_sL, kd_sD, ln_sI, ln_sR, ln_sA, ln_sQ, ln_sL, ln_sD, gI_sR, gI_sA, gI_sQ, gI_sL, gI_sD, gR_sI, gR_sA, gR_sQ, gR_sL, gR_sD, gA_sI, gA_sR, gA_sQ, gA_sL, gA_sD, gQ_sI, gQ_sR, gQ_sA, gQ_sL, gQ_sD, gL_sI, gL_sR, gL_sA, gL_sQ, gL_sD]; assumption) | simp [kd_sI, kd_sR, kd_sA, kd_sQ, kd_sL, kd_sD, ln_sI, ln_sR, ln_sA, ln_sQ, ln_sL, ln_sD, gI_sR, gI_sA, gI_sQ, gI_sL, gI_sD, gR_sI, gR_sA, gR_sQ, gR_sL, gR_sD, gA_sI, gA_sR, gA_sQ, gA_sL, gA_sD, gQ_sI, gQ_sR, gQ_sA, gQ_sL, gQ_sD, gL_sI, gL_sR, gL_sA, gL_sQ, gL_sD, kd_nO, kd_nA, *]) (by first | assumption | exact gI_sIs | exact gR_sRs | with_reducible rfl | (simp only [kd_sI, kd_sR, kd_sA, kd_sQ, kd_sL, kd_sD, ln_sI, ln_sR, ln_sA, ln_sQ, ln_sL, ln_sD, gI_sR, gI_sA, gI_sQ, gI_sL, gI_sD, gR_sI, gR_sA, gR_sQ, gR_sL, gR_sD, gA_sI, gA_sR, gA_sQ, gA_sL, gA_sD, gQ_sI, gQ_sR, gQ_sA, gQ_sL, gQ_sD, gL_sI, gL_sR, gL_sA, gL_sQ, gL_sD]; first | done | assumption | with_reducible rfl) | rfl) ?_
    refine r_if_ne (tgt := 59) dX3_refusesWay_25 (by decide) (fun h25 => ?_) (fun h25 => ?_)
    · refine r_aload_n (i := 0) dX3_refusesWay_59 rfl rfl ?_
      refine r_iconst (v := nI 4) dX3_refusesWay_60 (by decide) ?_
      refine r_iconst (v := nI 0) dX3_refusesWay_61 (by decide) ?_
      refine r_callV (As := [_, _]) (mc' := 0) (ms' := 0) dX3_refusesWay_62 k_X3_181 rfl (by first | assumption | (simp only [kd_sI, kd_sR, kd_sA, kd_sQ, kd_sL, kd_sD, ln_sI, ln_sR, ln_sA, ln_sQ, ln_sL, ln_sD, gI_sR, gI_sA, gI_sQ, gI_sL, gI_sD, gR_sI, gR_sA, gR_sQ, gR_sL, gR_sD, gA_sI, gA_sR, gA_sQ, gA_sL, gA_sD, gQ_sI, gQ_sR, gQ_sA, gQ_sL, gQ_sD, gL_sI, gL_sR, gL_sA, gL_sQ, gL_sD]; assumption) | simp [kd_sI, kd_sR, kd_sA, kd_sQ, kd_sL, kd_sD, ln_sI, ln_sR, ln_sA, ln_sQ, ln_sL, ln_sD, gI_sR, gI_sA, gI_sQ, gI_sL, gI_sD, gR_sI, gR_sA, gR_sQ, gR_sL, gR_sD, gA_sI, gA_sR, gA_sQ, gA_sL, gA_sD, gQ_sI, gQ_sR, gQ_sA, gQ_sL, gQ_sD, gL_sI, gL_sR, gL_sA, gL_sQ, gL_sD, kd_nO, kd_nA, *]) (T := TX3) (N := 27) rfl (by first | assumption | omega) (by first | assumption | omega) (by first | assumption | omega) (Nat.le_of_ble_eq_true rfl) ?_
      refine s_refuses (by omega) hM2 ?_
      intro H3 hU3 hR3 h77
      have hU23 : MU m ma [75, 76, 77, 78, 2078, 79, 80, 81, 82, 83] H H3 := (hU12.tr hU3).sub (by decide)
      have hM3 := hM2.mf hU3.1
      have e03 := hM3.1
      have loop : ∀ (k t : Nat) (H4 : AH), t + k = R → MU m ma [75, 76] H3 H4 → ChR H4 m ma (nI 4 :: q_tight g (nat g (102 + 21 * c)) t) → AW mX3_refusesWay G d Qr Qx 0 0 H4 73 [some (vR (some m)), some (vI (nI c)), some (vI (nI t))] [] := by
        intro k
        induction k with
        | zero =>
          intro t H4 ht hU4 hR4
          have hM4 := hM3.mf hU4.1
          have e04 := hM4.1
          have hg4 : gA H4 1068 (ma 68) = g := by
            rw [← hg2]
            exact congrFun (((hU3.tr hU4)).g68 (by decide)) _
          obtain ⟨e68a_4, e68b_4, e68c_4⟩ : gR H4 68 m = some (ma 68) ∧ kd H4 (ma 68) = 1068 ∧ ln H4 (ma 68) = 385 := hM4.2 68 (by decide)
          rw [← hR, show R = t by omega] at hQ
          refine r_iload_n (i := 2) dX3_refusesWay_73 rfl rfl ?_
          refine r_aload_n (i := 0) dX3_refusesWay_74 rfl rfl ?_
          refine r_getR dX3_refusesWay_75 fR_X3_7 (by first | assumption | (simp only [kd_sI, kd_sR, kd_sA, kd_sQ, kd_sL, kd_sD, ln_sI, ln_sR, ln_sA, ln_sQ, ln_sL, ln_sD, gI_sR, gI_sA, gI_sQ, gI_sL, gI_sD, gR_sI, gR_sA, gR_sQ, gR_sL, gR_sD, gA_sI, gA_sR, gA_sQ, gA_sL, gA_sD, gQ_sI, gQ_sR, gQ_sA, gQ_sL, gQ_sD, gL_sI, gL_sR, gL_sA, gL_sQ, gL_sD]; assumption) | simp [kd_sI, kd_sR, kd_sA, kd_sQ, kd_sL, kd_sD, ln_sI, ln_sR, ln_sA, ln_sQ, ln_sL, ln_sD, gI_sR, gI_sA, gI_sQ, gI_sL, gI_sD, gR_sI, gR_sA, gR_sQ, gR_sL, gR_sD, gA_sI, gA_sR, gA_sQ, gA_sL, gA_sD, gQ_sI, gQ_sR, gQ_sA, gQ_sL, gQ_sD, gL_sI, gL_sR, gL_sA, gL_sQ, gL_sD, kd_nO, kd_nA, *]) (by first | assumption | exact gI_sIs | exact gR_sRs | with_reducible rfl | (simp only [kd_sI, kd_sR, kd_sA, kd_sQ, kd_sL, kd_sD, ln_sI, ln_sR, ln_sA, ln_sQ, ln_sL, ln_sD, gI_sR, gI_sA, gI_sQ, gI_sL, gI_sD, gR_sI, gR_sA, gR_sQ, gR_sL, gR_sD, gA_sI, gA_sR, gA_sQ, gA_sL, gA_sD, gQ_sI, gQ_sR, gQ_sA, gQ_sL, gQ_sD, gL_sI, gL_sR, gL_sA, gL_sQ, gL_sD]; first | done | assumption | with_reducible rfl) | rfl) ?_
          refine r_bipush (v := nI 40) dX3_refusesWay_78 (by decide) ?_
          refine r_iald dX3_refusesWay_80 (by first | assumption | (simp only [kd_sI, kd_sR, kd_sA, kd_sQ, kd_sL, kd_sD, ln_sI, ln_sR, ln_sA, ln_sQ, ln_sL, ln_sD, gI_sR, gI_sA, gI_sQ, gI_sL, gI_sD, gR_sI, gR_sA, gR_sQ, gR_sL, gR_sD, gA_sI, gA_sR, gA_sQ, gA_sL, gA_sD, gQ_sI, gQ_sR, gQ_sA, gQ_sL, gQ_sD, gL_sI, gL_sR, gL_sA, gL_sQ, gL_sD]; assumption) | simp [kd_sI, kd_sR, kd_sA, kd_sQ, kd_sL, kd_sD, ln_sI, ln_sR, ln_sA, ln_sQ, ln_sL, ln_sD, gI_sR, gI_sA, gI_sQ, gI_sL, gI_sD, gR_sI, gR_sA, gR_sQ, gR_sL, gR_sD, gA_sI, gA_sR, gA_sQ, gA_sL, gA_sD, gQ_sI, gQ_sR, gQ_sA, gQ_sL, gQ_sD, gL_sI, gL_sR, gL_sA, gL_sQ, gL_sD, kd_nO, kd_nA, *]) (by first | decide | assumption) (by first | assumption | exact gI_sIs | exact gR_sRs | with_reducible rfl | (simp only [kd_sI, kd_sR, kd_sA, kd_sQ, kd_sL, kd_sD, ln_sI, ln_sR, ln_sA, ln_sQ, ln_sL, ln_sD, gI_sR, gI_sA, gI_sQ, gI_sL, gI_sD, gR_sI, gR_sA, gR_sQ, gR_sL, gR_sD, gA_sI, gA_sR, gA_sQ, gA_sL, gA_sD, gQ_sI, gQ_sR, gQ_sA, gQ_sL, gQ_sD, gL_sI, gL_sR, gL_sA, gL_sQ, gL_sD]; first | done | assumption | with_reducible rfl) | rfl) (by first | with_reducible rfl | assumption | (simp only [nI_add, pk_mul, nI_1]; with_reducible rfl)) (by first | assumption | omega) (by first | assumption | omega) (by first | assumption | exact gI_sIs | exact gR_sRs | with_reducible rfl | (simp only [kd_sI, kd_sR, kd_sA, kd_sQ, kd_sL, kd_sD, ln_sI, ln_sR, ln_sA, ln_sQ, ln_sL, ln_sD, gI_sR, gI_sA, gI_sQ, gI_sL, gI_sD, gR_sI, gR_sA, gR_sQ, gR_sL, gR_sD, gA_sI, gA_sR, gA_sQ, gA_sL, gA_sD, gQ_sI, gQ_sR, gQ_sA, gQ_sL, gQ_sD, gL_sI, gL_sR, gL_sA, gL_sQ, gL_sD]; first | done | assumption | with_reducible rfl) | rfl) ?_
          refine r_icmp_ge (tgt := 124) dX3_refusesWay_81 (by decide) (fun h81 => ?_) (fun h81 => ?_)
          · refine r_iconst (v := nI 0) dX3_refusesWay_124 (by decide) ?_
            refine r_ireturn dX3_refusesWay_125 rfl (by first | rfl | assumption | exact vp_nar_int _ | exact pk_nc _) ?_
            exact hQ H4 ((hU23.tr hU4).sub (by decide)) (by rw [(hU4.2 77 (by decide)).1]; exact h77) hR4
          · exact absurd (by rw [hg4, hR1]; exact nI_le (by omega) (by omega)) h81
        | succ k ih =>
          intro t H4 ht hU4 hR4
          have hM4 := hM3.mf hU4.1
          have e04 := hM4.1
          have hg4 : gA H4 1068 (ma 68) = g := by
            rw [← hg2]
            exact congrFun (((hU3.tr hU4)).g68 (by decide)) _
          have hll : (nI 4 :: q_tight g (nat g (102 + 21 * c)) t).length = (q_tight g (nat g (102 + 21 * c)) t).length + 1 := rfl
          have hql := q_tight_len (g := g) (ty := nat g (102 + 21 * c)) (n := t)
          obtain ⟨e68a_4, e68b_4, e68c_4⟩ : gR H4 68 m = some (ma 68) ∧ kd H4 (ma 68) = 1068 ∧ ln H4 (ma 68) = 385 := hM4.2 68 (by decide)
          obtain ⟨e75a_4, e75b_4, e75c_4⟩ : gR H4 75 m = some (ma 75) ∧ kd H4 (ma 75) = 1075 ∧ ln H4 (ma 75) = 16 := hM4.2 75 (by decide)
          have hB4 : GB (gA H4 1068 (ma 68)) := by rw [hg4]; exact hB'
          refine r_iload_n (i := 2) dX3_refusesWay_73 rfl rfl ?_
          refine r_aload_n (i := 0) dX3_refusesWay_74 rfl rfl ?_
          refine r_getR dX3_refusesWay_75 fR_X3_7 (by first | assumption | (simp only [kd_sI, kd_sR, kd_sA, kd_sQ, kd_sL, kd_sD, ln_sI, ln_sR, ln_sA, ln_sQ, ln_sL, ln_sD, gI_sR, gI_sA, gI_sQ, gI_sL, gI_sD, gR_sI, gR_sA, gR_sQ, gR_sL, gR_sD, gA_sI, gA_sR, gA_sQ, gA_sL, gA_sD, gQ_sI, gQ_sR, gQ_sA, gQ_sL, gQ_sD, gL_sI, gL_sR, gL_sA, gL_sQ, gL_sD]; assumption) | simp [kd_sI, kd_sR, kd_sA, kd_sQ, kd_sL, kd_sD, ln_sI, ln_sR, ln_sA, ln_sQ, ln_sL, ln_sD, gI_sR, gI_sA, gI_sQ, gI_sL, gI_sD, gR_sI, gR_sA, gR_sQ, gR_sL, gR_sD, gA_sI, gA_sR, gA_sQ, gA_sL, gA_sD, gQ_sI, gQ_sR, gQ_sA, gQ_sL, gQ_sD, gL_sI, gL_sR, gL_sA, gL_sQ, gL_sD, kd_nO, kd_nA, *]) (by first | assumption | exact gI_sIs | exact gR_sRs | with_reducible rfl | (simp only [kd_sI, kd_sR, kd_sA, kd_sQ, kd_sL, kd_sD, ln_sI, ln_sR, ln_sA, ln_sQ, ln_sL, ln_sD, gI_sR, gI_sA, gI_sQ, gI_sL, gI_sD, gR_sI, gR_sA, gR_sQ, gR_sL, gR_sD, gA_sI, gA_sR, gA_sQ, gA_sL, gA_sD, gQ_sI, gQ_sR, gQ_sA, gQ_sL, gQ_sD, gL_sI, gL_sR, gL_sA, gL_sQ, gL_sD]; first | done | assumption | with_reducible rfl) | rfl) ?_
          refine r_bipush (v := nI 40) dX3_refusesWay_78 (by decide) ?_
          refine r_iald dX3_refusesWay_80 (by first | assumption | (simp only [kd_sI, kd_sR, kd_sA, kd_sQ, kd_sL, kd_sD, ln_sI, ln_sR, ln_sA, ln_sQ, ln_sL, ln_sD, gI_sR, gI_sA, gI_sQ, gI_sL, gI_sD, gR_sI, gR_sA, gR_sQ, gR_sL, gR_sD, gA_sI, gA_sR, gA_sQ, gA_sL, gA_sD, gQ_sI, gQ_sR, gQ_sA, gQ_sL, gQ_sD, gL_sI, gL_sR, gL_sA, gL_sQ, gL_sD]; assumption) | simp [kd_sI, kd_sR, kd_sA, kd_sQ, kd_sL, kd_sD, ln_sI, ln_sR, ln_sA, ln_sQ, ln_sL, ln_sD, gI_sR, gI_sA, gI_sQ, gI_sL, gI_sD, gR_sI, gR_sA, gR_sQ, gR_sL, gR_sD, gA_sI, gA_sR, gA_sQ, gA_sL, gA_sD, gQ_sI, gQ_sR, gQ_sA, gQ_sL, gQ_sD, gL_sI, gL_sR, gL_sA, gL_sQ, gL_sD, kd_nO, kd_nA, *]) (by first | decide | assumption) (by first | assumption | exact gI_sIs | exact gR_sRs | with_reducible rfl | (simp only [kd_sI, kd_sR, kd_sA, kd_sQ, kd_sL, kd_sD, ln_sI, ln_sR, ln_sA, ln_sQ, ln_sL, ln_sD, gI_sR, gI_sA, gI_sQ, gI_sL, gI_sD, gR_sI, gR_sA, gR_sQ, gR_sL, gR_sD, gA_sI, gA_sR, gA_sQ, gA_sL, gA_sD, gQ_sI, gQ_sR, gQ_sA, gQ_sL, gQ_sD, gL_sI, gL_sR, gL_sA, gL_sQ, gL_sD]; first | done | assumption | with_reducible rfl) | rfl) (by first | with_reducible rfl | assumption | (simp only [nI_add, pk_mul, nI_1]; with_reducible rfl)) (by first | assumption | omega) (by first | assumption | omega) (by first | assumption | exact gI_sIs | exact gR_sRs | with_reducible rfl | (simp only [kd_sI, kd_sR, kd_sA, kd_sQ, kd_sL, kd_sD, ln_sI, ln_sR, ln_sA, ln_sQ, ln_sL, ln_sD, gI_sR, gI_sA, gI_sQ, gI_sL, gI_sD, gR_sI, gR_sA, gR_sQ, gR_sL, gR_sD, gA_sI, gA_sR, gA_sQ, gA_sL, gA_sD, gQ_sI, gQ_sR, gQ_sA, gQ_sL, gQ_sD, gL_sI, gL_sR, gL_sA, gL_sQ, gL_sD]; first | done | assumption | with_reducible rfl) | rfl) ?_
          refine r_icmp_ge (tgt := 124) dX3_refusesWay_81 (by decide) (fun h81 => ?_) (fun h81 => ?_)
          · exact absurd h81 (by rw [hg4, hR1]; exact nI_ge (by omega) (by omega))
          · refine r_aload_n (i := 0) dX3_refusesWay_84 rfl rfl ?_
            refine r_iload_n (i := 2) dX3_refusesWay_85 rfl rfl ?_
            refine r_aload_n (i := 0) dX3_refusesWay_86 rfl rfl ?_
            refine r_iload_n (i := 1) dX3_refusesWay_87 rfl rfl ?_
            refine r_iconst (v := nI 0) dX3_refusesWay_88 (by decide) ?_
            refine r_callV (As := [_, _]) (mc' := 0) (ms' := 0) dX3_refusesWay_89 k_X3_105 rfl (by first | assumption | (simp only [kd_sI, kd_sR, kd_sA, kd_sQ, kd_sL, kd_sD, ln_sI, ln_sR, ln_sA, ln_sQ, ln_sL, ln_sD, gI_sR, gI_sA, gI_sQ, gI_sL, gI_sD, gR_sI, gR_sA, gR_sQ, gR_sL, gR_sD, gA_sI, gA_sR, gA_sQ, gA_sL, gA_sD, gQ_sI, gQ_sR, gQ_sA, gQ_sL, gQ_sD, gL_sI, gL_sR, gL_sA, gL_sQ, gL_sD]; assumption) | simp [kd_sI, kd_sR, kd_sA, kd_sQ, kd_sL, kd_sD, ln_sI, ln_sR, ln_sA, ln_sQ, ln_sL, ln_sD, gI_sR, gI_sA, gI_sQ, gI_sL, gI_sD, gR_sI, gR_sA, gR_sQ, gR_sL, gR_sD, gA_sI, gA_sR, gA_sQ, gA_sL, gA_sD, gQ_sI, gQ_sR, gQ_sA, gQ_sL, gQ_sD, gL_sI, gL_sR, gL_sA, gL_sQ, gL_sD, kd_nO, kd_nA, *]) (T := TX3) (N := 27) rfl (by first | assumption | omega) (by first | assumption | omega) (by first | assumption | omega) (Nat.le_of_ble_eq_true rfl) ?_
            refine s_cableTold (by omega) hM4 (by omega) ?_
            rw [hg4, show 102 + 21 * c + 0 = 102 + 21 * c by omega, y1]
            refine r_callV (As := [_, _]) (mc' := 0) (ms' := 0) dX3_refusesWay_92 k_X3_142 rfl (by first | assumption | (simp only [kd_sI, kd_sR, kd_sA, kd_sQ, kd_sL, kd_sD, ln_sI, ln_sR, ln_sA, ln_sQ, ln_sL, ln_sD, gI_sR, gI_sA, gI_sQ, gI_sL, gI_sD, gR_sI, gR_sA, gR_sQ, gR_sL, gR_sD, gA_sI, gA_sR, gA_sQ, gA_sL, gA_sD, gQ_sI, gQ_sR, gQ_sA, gQ_sL, gQ_sD, gL_sI, gL_sR, gL_sA, gL_sQ, gL_sD]; assumption) | simp [kd_sI, kd_sR, kd_sA, kd_sQ, kd_sL, kd_sD, ln_sI, ln_sR, ln_sA, ln_sQ, ln_sL, ln_sD, gI_sR, gI_sA, gI_sQ, gI_sL, gI_sD, gR_sI, gR_sA, gR_sQ, gR_sL, gR_sD, gA_sI, gA_sR, gA_sQ, gA_sL, gA_sD, gQ_sI, gQ_sR, gQ_sA, gQ_sL, gQ_sD, gL_sI, gL_sR, gL_sA, gL_sQ, gL_sD, kd_nO, kd_nA, *]) (T := TX3) (N := 27) rfl (by first | assumption | omega) (by first | assumption | omega) (by first | assumption | omega) (Nat.le_of_ble_eq_true rfl) ?_
            refine s_placeIn (by omega) hM4 hB4 (by rw [hg4, ← hR]; omega) (by rw [hg4]; omega) ?_
            rw [hg4]
            have nx := q_tight_s (g := g) (ty := nat g (102 + 21 * c)) (n := t)
            cases hp : q_place g t (nat g (102 + 21 * c)) with
            | none =>
              rw [hp] at nx
              obtain ⟨c1, c2, c3⟩ := hR4
              refine r_if_ge (tgt := 118) dX3_refusesWay_95 (by decide) (fun h95 => ?_) (fun h95 => ?_)
              · exact absurd h95 (by decide)
              · refine r_aload_n (i := 0) dX3_refusesWay_98 rfl rfl ?_
                refine r_getR dX3_refusesWay_99 fR_X3_22 (by first | assumption | (simp only [kd_sI, kd_sR, kd_sA, kd_sQ, kd_sL, kd_sD, ln_sI, ln_sR, ln_sA, ln_sQ, ln_sL, ln_sD, gI_sR, gI_sA, gI_sQ, gI_sL, gI_sD, gR_sI, gR_sA, gR_sQ, gR_sL, gR_sD, gA_sI, gA_sR, gA_sQ, gA_sL, gA_sD, gQ_sI, gQ_sR, gQ_sA, gQ_sL, gQ_sD, gL_sI, gL_sR, gL_sA, gL_sQ, gL_sD]; assumption) | simp [kd_sI, kd_sR, kd_sA, kd_sQ, kd_sL, kd_sD, ln_sI, ln_sR, ln_sA, ln_sQ, ln_sL, ln_sD, gI_sR, gI_sA, gI_sQ, gI_sL, gI_sD, gR_sI, gR_sA, gR_sQ, gR_sL, gR_sD, gA_sI, gA_sR, gA_sQ, gA_sL, gA_sD, gQ_sI, gQ_sR, gQ_sA, gQ_sL, gQ_sD, gL_sI, gL_sR, gL_sA, gL_sQ, gL_sD, kd_nO, kd_nA, *]) (by first | assumption | exact gI_sIs | exact gR_sRs | with_reducible rfl | (simp only [kd_sI, kd_sR, kd_sA, kd_sQ, kd_sL, kd_sD, ln_sI, ln_sR, ln_sA, ln_sQ, ln_sL, ln_sD, gI_sR, gI_sA, gI_sQ, gI_sL, gI_sD, gR_sI, gR_sA, gR_sQ, gR_sL, gR_sD, gA_sI, gA_sR, gA_sQ, gA_sL, gA_sD, gQ_sI, gQ_sR, gQ_sA, gQ_sL, gQ_sD, gL_sI, gL_sR, gL_sA, gL_sQ, gL_sD]; first | done | assumption | with_reducible rfl) | rfl) ?_
                refine r_aload_n (i := 0) dX3_refusesWay_102 rfl rfl ?_
                refine r_getI dX3_refusesWay_103 fR_X3_172 (by first | assumption | (simp only [kd_sI, kd_sR, kd_sA, kd_sQ, kd_sL, kd_sD, ln_sI, ln_sR, ln_sA, ln_sQ, ln_sL, ln_sD, gI_sR, gI_sA, gI_sQ, gI_sL, gI_sD, gR_sI, gR_sA, gR_sQ, gR_sL, gR_sD, gA_sI, gA_sR, gA_sQ, gA_sL, gA_sD, gQ_sI, gQ_sR, gQ_sA, gQ_sL, gQ_sD, gL_sI, gL_sR, gL_sA, gL_sQ, gL_sD]; assumption) | simp [kd_sI, kd_sR, kd_sA, kd_sQ, kd_sL, kd_sD, ln_sI, ln_sR, ln_sA, ln_sQ, ln_sL, ln_sD, gI_sR, gI_sA, gI_sQ, gI_sL, gI_sD, gR_sI, gR_sA, gR_sQ, gR_sL, gR_sD, gA_sI, gA_sR, gA_sQ, gA_sL, gA_sD, gQ_sI, gQ_sR, gQ_sA, gQ_sL, gQ_sD, gL_sI, gL_sR, gL_sA, gL_sQ, gL_sD, kd_nO, kd_nA, *]) (by first | assumption | exact gI_sIs | exact gR_sRs | with_reducible rfl | (simp only [kd_sI, kd_sR, kd_sA, kd_sQ, kd_sL, kd_sD, ln_sI, ln_sR, ln_sA, ln_sQ, ln_sL, ln_sD, gI_sR, gI_sA, gI_sQ, gI_sL, gI_sD, gR_sI, gR_sA, gR_sQ, gR_sL, gR_sD, gA_sI, gA_sR, gA_sQ, gA_sL, gA_sD, gQ_sI, gQ_sR, gQ_sA, gQ_sL, gQ_sD, gL_sI, gL_sR, gL_sA, gL_sQ, gL_sD]; first | done | assumption | with_reducible rfl) | rfl) ?_
                refine r_iload_n (i := 2) dX3_refusesWay_106 rfl rfl ?_
                refine r_iast dX3_refusesWay_107 (by first | assumption | (simp only [kd_sI, kd_sR, kd_sA, kd_sQ, kd_sL, kd_sD, ln_sI, ln_sR, ln_sA, ln_sQ, ln_sL, ln_sD, gI_sR, gI_sA, gI_sQ, gI_sL, gI_sD, gR_sI, gR_sA, gR_sQ, gR_sL, gR_sD, gA_sI, gA_sR, gA_sQ, gA_sL, gA_sD, gQ_sI, gQ_sR, gQ_sA, gQ_sL, gQ_sD, gL_sI, gL_sR, gL_sA, gL_sQ, gL_sD]; assumption) | simp [kd_sI, kd_sR, kd_sA, kd_sQ, kd_sL, kd_sD, ln_sI, ln_sR, ln_sA, ln_sQ, ln_sL, ln_sD, gI_sR, gI_sA, gI_sQ, gI_sL, gI_sD, gR_sI, gR_sA, gR_sQ, gR_sL, gR_sD, gA_sI, gA_sR, gA_sQ, gA_sL, gA_sD, gQ_sI, gQ_sR, gQ_sA, gQ_sL, gQ_sD, gL_sI, gL_sR, gL_sA, gL_sQ, gL_sD, kd_nO, kd_nA, *]) (by first | decide | assumption) (by first | assumption | exact gI_sIs | exact gR_sRs | with_reducible rfl | (simp only [kd_sI, kd_sR, kd_sA, kd_sQ, kd_sL, kd_sD, ln_sI, ln_sR, ln_sA, ln_sQ, ln_sL, ln_sD, gI_sR, gI_sA, gI_sQ, gI_sL, gI_sD, gR_sI, gR_sA, gR_sQ, gR_sL, gR_sD, gA_sI, gA_sR, gA_sQ, gA_sL, gA_sD, gQ_sI, gQ_sR, gQ_sA, gQ_sL, gQ_sD, gL_sI, gL_sR, gL_sA, gL_sQ, gL_sD]; first | done | assumption | with_reducible rfl) | rfl) (by first | with_reducible rfl | assumption | (simp only [nI_add, pk_mul, nI_1]; with_reducible rfl)) (by first | assumption | omega) (by first | assumption | omega) ?_
                refine r_aload_n (i := 0) dX3_refusesWay_108 rfl rfl ?_
                refine r_dup dX3_refusesWay_109 rfl ?_
                refine r_getI dX3_refusesWay_110 fR_X3_172 (by first | assumption | (simp only [kd_sI, kd_sR, kd_sA, kd_sQ, kd_sL, kd_sD, ln_sI, ln_sR, ln_sA, ln_sQ, ln_sL, ln_sD, gI_sR, gI_sA, gI_sQ, gI_sL, gI_sD, gR_sI, gR_sA, gR_sQ, gR_sL, gR_sD, gA_sI, gA_sR, gA_sQ, gA_sL, gA_sD, gQ_sI, gQ_sR, gQ_sA, gQ_sL, gQ_sD, gL_sI, gL_sR, gL_sA, gL_sQ, gL_sD]; assumption) | simp [kd_sI, kd_sR, kd_sA, kd_sQ, kd_sL, kd_sD, ln_sI, ln_sR, ln_sA, ln_sQ, ln_sL, ln_sD, gI_sR, gI_sA, gI_sQ, gI_sL, gI_sD, gR_sI, gR_sA, gR_sQ, gR_sL, gR_sD, gA_sI, gA_sR, gA_sQ, gA_sL, gA_sD, gQ_sI, gQ_sR, gQ_sA, gQ_sL, gQ_sD, gL_sI, gL_sR, gL_sA, gL_sQ, gL_sD, kd_nO, kd_nA, *]) (by first | assumption | exact gI_sIs | exact gR_sRs | with_reducible rfl | (simp only [kd_sI, kd_sR, kd_sA, kd_sQ, kd_sL, kd_sD, ln_sI, ln_sR, ln_sA, ln_sQ, ln_sL, ln_sD, gI_sR, gI_sA, gI_sQ, gI_sL, gI_sD, gR_sI, gR_sA, gR_sQ, gR_sL, gR_sD, gA_sI, gA_sR, gA_sQ, gA_sL, gA_sD, gQ_sI, gQ_sR, gQ_sA, gQ_sL, gQ_sD, gL_sI, gL_sR, gL_sA, gL_sQ, gL_sD]; first | done | assumption | with_reducible rfl) | rfl) ?_
                refine r_iconst (v := nI 1) dX3_refusesWay_113 (by decide) ?_
                refine r_iadd dX3_refusesWay_114 ?_
                refine r_putI dX3_refusesWay_115 fG_X3_172 (fun _ => by first | rfl | contradiction) (by first | assumption | (simp only [kd_sI, kd_sR, kd_sA, kd_sQ, kd_sL, kd_sD, ln_sI, ln_sR, ln_sA, ln_sQ, ln_sL, ln_sD, gI_sR, gI_sA, gI_sQ, gI_sL, gI_sD, gR_sI, gR_sA, gR_sQ, gR_sL, gR_sD, gA_sI, gA_sR, gA_sQ, gA_sL, gA_sD, gQ_sI, gQ_sR, gQ_sA, gQ_sL, gQ_sD, gL_sI, gL_sR, gL_sA, gL_sQ, gL_sD]; assumption) | simp [kd_sI, kd_sR, kd_sA, kd_sQ, kd_sL, kd_sD, ln_sI, ln_sR, ln_sA, ln_sQ, ln_sL, ln_sD, gI_sR, gI_sA, gI_sQ, gI_sL, gI_sD, gR_sI, gR_sA, gR_sQ, gR_sL, gR_sD, gA_sI, gA_sR, gA_sQ, gA_sL, gA_sD, gQ_sI, gQ_sR, gQ_sA, gQ_sL, gQ_sD, gL_sI, gL_sR, gL_sA, gL_sQ, gL_sD, kd_nO, kd_nA, *]) (by first | rfl | assumption) (by first | rfl | assumption) ?_
                refine r_iinc dX3_refusesWay_118 rfl (by first | exact nI_1 _ | rfl) (by simp only [lset]; rfl) ?_
                refine r_goto (tgt := 73) dX3_refusesWay_121 (by decide) ?_
                refine ih (t + 1) _ (by omega) ((hU4.sA (f := 75) (Or.inl (by decide)) (by decide) (by decide)).sI (f := 76) (by decide) (by decide) (by decide)) ?_
                rw [nx, if_pos (show (none : Option Nat).isNone = true from rfl)]
                refine ⟨?_, ?_, ?_⟩
                · rw [gI_sIs]
                  simp
                  rw [nI_add]
                · simp
                  omega
                · intro k hk
                  show gA (sA H4 1075 (ma 75) _) 1075 (ma 75) k = _
                  rw [gA_sAs]
                  simp at hk
                  unfold upd
                  by_cases h2 : k = (nI 4 :: q_tight g (nat g (102 + 21 * c)) t).length
                  · rw [if_pos h2, h2]
                    simp
                  · have h3 : k < (nI 4 :: q_tight g (nat g (102 + 21 * c)) t).length := by
                      simp at h2 ⊢
                      omega
                    rw [if_neg h2, c3 k h3]
                    rw [← List.cons_append]
                    simp only [List.getD_eq_getElem?_getD]
                    rw [List.getElem?_append_left h3]
            | some x =>
              rw [hp] at nx
              have hx0 := place_lt hp
              have hx4 := (hB'.2.2.2.2.1 t (by omega)).1.2
              have hx : x < 2147483648 := by omega
              refine r_if_ge (tgt := 118) dX3_refusesWay_95 (by decide) (fun h95 => ?_) (fun h95 => ?_)
              · refine r_iinc dX3_refusesWay_118 rfl (by first | exact nI_1 _ | rfl) (by simp only [lset]; rfl) ?_
                refine r_goto (tgt := 73) dX3_refusesWay_121 (by decide) ?_
                refine ih (t + 1) _ (by omega) hU4 ?_
                rw [nx]
                simpa using hR4
              · exact absurd (Int32.not_lt.mp (nI_pos hx)) h95
      refine r_pop dX3_refusesWay_65 rfl ?_
      refine r_aload_n (i := 0) dX3_refusesWay_66 rfl rfl ?_
      refine r_iconst (v := nI 1) dX3_refusesWay_67 (by decide) ?_
      refine r_putI dX3_refusesWay_68 fG_X3_172 (fun _ => by first | rfl | contradiction) (by first | assumption | (simp only [kd_sI, kd_sR, kd_sA, kd_sQ, kd_sL, kd_sD, ln_sI, ln_sR, ln_sA, ln_sQ, ln_sL, ln_sD, gI_sR, gI_sA, gI_sQ, gI_sL, gI_sD, gR_sI, gR_sA, gR_sQ, gR_sL, gR_sD, gA_sI, gA_sR, gA_sQ, gA_sL, gA_sD, gQ_sI, gQ_sR, gQ_sA, gQ_sL, gQ_sD, gL_sI, gL_sR, gL_sA, gL_sQ, gL_sD]; assumption) | simp [kd_sI, kd_sR, kd_sA, kd_sQ, kd_sL, kd_sD, ln_sI, ln_sR, ln_sA, ln_sQ, ln_sL, ln_sD, gI_sR, gI_sA, gI_sQ, gI_sL, gI_sD, gR_sI, gR_sA, gR_sQ, gR_sL, gR_sD, gA_sI, gA_sR, gA_sQ, gA_sL, gA_sD, gQ_sI, gQ_sR, gQ_sA, gQ_sL, gQ_sD, gL_sI, gL_sR, gL_sA, gL_sQ, gL_sD, kd_nO, kd_nA, *]) (by first | rfl | assumption) (by first | rfl | assumption) ?_
      refine r_iconst (v := nI 0) dX3_refusesWay_71 (by decide) ?_
      refine r_istore_n (i := 2) dX3_refusesWay_72 rfl (Nat.le_of_ble_eq_true rfl) (by simp only [lset]; rfl) ?_
      refine loop R 0 _ (by omega) (MU.rf.sI (f := 76) (by decide) (by decide) (by decide)) ?_
      obtain ⟨-, -, q3⟩ := hR3
      refine ⟨gI_sIs, by simp [q_tight], ?_⟩
      intro k hk
      have hk1 : k = 0 := by simp [q_tight] at hk; exact hk
      subst hk1
      exact q3 0 (by simp)
    · exact absurd h25 (nI_ne0 (by omega) (by omega))
theorem s_route {tx : Bool} {L : List (Nat → Int32)} {Ch : List Int32} {c : Int32} (hd : 7 ≤ d) (hM : MO H m ma) (hB : GB (gA H 1068 (ma 68))) (hT : GT (gA H 1068 (ma 68))) (hC : GC (gA H 1068 (ma 68))) (hA : GA (gA H 1068 (ma 68))) (hP : PastR H m ma L) (hCh : ChR H m ma Ch) (hx : gI H 72 m = bI tx) (hz : ZT (gA H 1068 (ma 68)))
    (hQ : PV m ma Qr H (u_route tx (gA H 1068 (ma 68)) L Ch c)) : AMet G d 0 0 yX3_route wX3_route H [vR (some m), vI c] Qr Qx := by
  have e0 := hM.1
  obtain ⟨g, hg⟩ := ex_val (gA H 1068 (ma 68))
  rw [← hg] at hT hC hA hQ hz
  have hB' : GB g := by rw [hg]; exact hB
  have hU0 : MU m ma wF H (sI H 77 m (nI 0)) := MU.rf.sI (by decide) (by decide) (by decide)
  refine AMet.of (M := mX3_route) (maxL := 5) rfl rfl (Nat.le_of_ble_eq_true rfl) ?_
  show AW mX3_route _ _ _ _ _ _ _ 0 [some (vR (some m)), some (vI c), none, none, none] []
  refine r_aload_n (i := 0) dX3_route_0 rfl rfl ?_
  refine r_iconst (v := nI 0) dX3_route_1 (by decide) ?_
  refine r_putI dX3_route_2 fG_X3_66 (fun _ => by first | rfl | contradiction) (by first | assumption | (simp only [kd_sI, kd_sR, kd_sA, kd_sQ, kd_sL, kd_sD, ln_sI, ln_sR, ln_sA, ln_sQ, ln_sL, ln_sD, gI_sR, gI_sA, gI_sQ, gI_sL, gI_sD, gR_sI, gR_sA, gR_sQ, gR_sL, gR_sD, gA_sI, gA_sR, gA_sQ, gA_sL, gA_sD, gQ_sI, gQ_sR, gQ_sA, gQ_sL, gQ_sD, gL_sI, gL_sR, gL_sA, gL_sQ, gL_sD]; assumption) | simp [kd_sI, kd_sR, kd_sA, kd_sQ, kd_sL, kd_sD, ln_sI, ln_sR, ln_sA, ln_sQ, ln_sL, ln_sD, gI_sR, gI_sA, gI_sQ, gI_sL, gI_sD, gR_sI, gR_sA, gR_sQ, gR_sL, gR_sD, gA_sI, gA_sR, gA_sQ, gA_sL, gA_sD, gQ_sI, gQ_sR, gQ_sA, gQ_sL, gQ_sD, gL_sI, gL_sR, gL_sA, gL_sQ, gL_sD, kd_nO, kd_nA, *]) (by first | rfl | assumption) (by first | rfl | assumption) ?_
  refine AW.name (fun H0 hH0 => ?_)
  have hU0 : MU m ma [77] H H0 := by rw [hH0]; exact MU.rf.sI (by decide) (by decide) (by decide)
  have hM0 := hM.mf hU0.1
  have e00 := hM0.1
  have hg0 : gA H0 1068 (ma 68) = g := by rw [hg]; exact congrFun (hU0.g68 (by decide)) _
  have h770 : gI H0 77 m = nI 0 := by rw [hH0]; exact gI_sIs
  have hP0 := hP.mu hU0 (by decide) (by decide)
  have hC0 := hCh.mu hU0 (by decide) (by decide)
  have hx0 : gI H0 72 m = bI tx := by rw [(hU0.2 72 (by decide)).1]; exact hx
  have hB0 : GB (gA H0 1068 (ma 68)) := by rw [hg0]; exact hB'
  refine r_aload_n (i := 0) dX3_route_5 rfl rfl ?_
  refine r_iload_n (i := 1) dX3_route_6 rfl rfl ?_
  refine r_callV (As := [_]) (mc' := 0) (ms' := 0) dX3_route_7 k_X3_184 rfl (by first | assumption | (simp only [kd_sI, kd_sR, kd_sA, kd_sQ, kd_sL, kd_sD, ln_sI, ln_sR, ln_sA, ln_sQ, ln_sL, ln_sD, gI_sR, gI_sA, gI_sQ, gI_sL, gI_sD, gR_sI, gR_sA, gR_sQ, gR_sL, gR_sD, gA_sI, gA_sR, gA_sQ, gA_sL, gA_sD, gQ_sI, gQ_sR, gQ_sA, gQ_sL, gQ_sD, gL_sI, gL_sR, gL_sA, gL_sQ, gL_sD]; assumption) | simp [kd_sI, kd_sR, kd_sA, kd_sQ, kd_sL, kd_sD, ln_sI, ln_sR, ln_sA, ln_sQ, ln_sL, ln_sD, gI_sR, gI_sA, gI_sQ, gI_sL, gI_sD, gR_sI, gR_sA, gR_sQ, gR_sL, gR_sD, gA_sI, gA_sR, gA_sQ, gA_sL, gA_sD, gQ_sI, gQ_sR, gQ_sA, gQ_sL, gQ_sD, gL_sI, gL_sR, gL_sA, gL_sQ, gL_sD, kd_nO, kd_nA, *]) (T := TX3) (N := 27) rfl (by first | assumption | omega) (by first | assumption | omega) (by first | assumption | omega) (Nat.le_of_ble_eq_true rfl) ?_
  refine s_isCable (by omega) hM0 ?_
  rw [hg0]
  refine r_if_ne (tgt := 20) dX3_route_10 (by decide) (fun h10 => ?_) (fun h10 => ?_)
  · have hc : isC g c = true := bI_ne0 h10
    have hc1 : ¬ isC g c = false := by rw [hc]; decide
    obtain ⟨c, hcj, rfl, ej⟩ := inB_t hc hB'.2.2.1 (by decide)
    unfold u_route at hQ
    rw [if_neg hc1, ej] at hQ
    obtain ⟨⟨f1, f2⟩, ⟨t1, t2⟩, hft⟩ := hC c hcj
    obtain ⟨⟨y1, y2⟩, -, -⟩ := hB'.2.2.2.2.2 c hcj
    have hC2 := hB'.2.2.1.2
    have hY2 := hB'.1.2
    have hR2 := hB'.2.1.2
    refine r_aload_n (i := 0) dX3_route_20 rfl rfl ?_
    refine r_iload_n (i := 1) dX3_route_21 rfl rfl ?_
    refine r_iconst (v := nI 3) dX3_route_22 (by decide) ?_
    refine r_callV (As := [_, _]) (mc' := 0) (ms' := 0) dX3_route_23 k_X3_105 rfl (by first | assumption | (simp only [kd_sI, kd_sR, kd_sA, kd_sQ, kd_sL, kd_sD, ln_sI, ln_sR, ln_sA, ln_sQ, ln_sL, ln_sD, gI_sR, gI_sA, gI_sQ, gI_sL, gI_sD, gR_sI, gR_sA, gR_sQ, gR_sL, gR_sD, gA_sI, gA_sR, gA_sQ, gA_sL, gA_sD, gQ_sI, gQ_sR, gQ_sA, gQ_sL, gQ_sD, gL_sI, gL_sR, gL_sA, gL_sQ, gL_sD]; assumption) | simp [kd_sI, kd_sR, kd_sA, kd_sQ, kd_sL, kd_sD, ln_sI, ln_sR, ln_sA, ln_sQ, ln_sL, ln_sD, gI_sR, gI_sA, gI_sQ, gI_sL, gI_sD, gR_sI, gR_sA, gR_sQ, gR_sL, gR_sD, gA_sI, gA_sR, gA_sQ, gA_sL, gA_sD, gQ_sI, gQ_sR, gQ_sA, gQ_sL, gQ_sD, gL_sI, gL_sR, gL_sA, gL_sQ, gL_sD, kd_nO, kd_nA, *]) (T := TX3) (N := 27) rfl (by first | assumption | omega) (by first | assumption | omega) (by first | assumption | omega) (Nat.le_of_ble_eq_true rfl) ?_
    refine s_cableTold (by omega) hM0 (by omega) ?_
    rw [hg0, show 102 + 21 * c + 3 = 105 + 21 * c by omega]
    refine r_if_eq (tgt := 41) dX3_route_26 (by decide) (fun h26 => ?_) (fun h26 => ?_)
    · rw [if_pos h26] at hQ
      have hn0 := hA c hcj h26
      refine r_aload_n (i := 0) dX3_route_41 rfl rfl ?_
      refine r_iload_n (i := 1) dX3_route_42 rfl rfl ?_
      refine r_iconst (v := nI 0) dX3_route_43 (by decide) ?_
      refine r_callV (As := [_, _]) (mc' := 0) (ms' := 0) dX3_route_44 k_X3_105 rfl (by first | assumption | (simp only [kd_sI, kd_sR, kd_sA, kd_sQ, kd_sL, kd_sD, ln_sI, ln_sR, ln_sA, ln_sQ, ln_sL, ln_sD, gI_sR, gI_sA, gI_sQ, gI_sL, gI_sD, gR_sI, gR_sA, gR_sQ, gR_sL, gR_sD, gA_sI, gA_sR, gA_sQ, gA_sL, gA_sD, gQ_sI, gQ_sR, gQ_sA, gQ_sL, gQ_sD, gL_sI, gL_sR, gL_sA, gL_sQ, gL_sD]; assumption) | simp [kd_sI, kd_sR, kd_sA, kd_sQ, kd_sL, kd_sD, ln_sI, ln_sR, ln_sA, ln_sQ, ln_sL, ln_sD, gI_sR, gI_sA, gI_sQ, gI_sL, gI_sD, gR_sI, gR_sA, gR_sQ, gR_sL, gR_sD, gA_sI, gA_sR, gA_sQ, gA_sL, gA_sD, gQ_sI, gQ_sR, gQ_sA, gQ_sL, gQ_sD, gL_sI, gL_sR, gL_sA, gL_sQ, gL_sD, kd_nO, kd_nA, *]) (T := TX3) (N := 27) rfl (by first | assumption | omega) (by first | assumption | omega) (by first | assumption | omega) (Nat.le_of_ble_eq_true rfl) ?_
      refine s_cableTold (by omega) hM0 (by omega) ?_
      rw [hg0, show 102 + 21 * c + 0 = 102 + 21 * c by omega, y1]
      refine r_istore_n (i := 2) dX3_route_47 rfl (Nat.le_of_ble_eq_true rfl) (by simp only [lset]; rfl) ?_
      refine r_aload_n (i := 0) dX3_route_48 rfl rfl ?_
      refine r_iload_n (i := 2) dX3_route_49 rfl rfl ?_
      refine r_callV (As := [_]) (mc' := 0) (ms' := 0) dX3_route_50 k_X3_164 rfl (by first | assumption | (simp only [kd_sI, kd_sR, kd_sA, kd_sQ, kd_sL, kd_sD, ln_sI, ln_sR, ln_sA, ln_sQ, ln_sL, ln_sD, gI_sR, gI_sA, gI_sQ, gI_sL, gI_sD, gR_sI, gR_sA, gR_sQ, gR_sL, gR_sD, gA_sI, gA_sR, gA_sQ, gA_sL, gA_sD, gQ_sI, gQ_sR, gQ_sA, gQ_sL, gQ_sD, gL_sI, gL_sR, gL_sA, gL_sQ, gL_sD]; assumption) | simp [kd_sI, kd_sR, kd_sA, kd_sQ, kd_sL, kd_sD, ln_sI, ln_sR, ln_sA, ln_sQ, ln_sL, ln_sD, gI_sR, gI_sA, gI_sQ, gI_sL, gI_sD, gR_sI, gR_sA, gR_sQ, gR_sL, gR_sD, gA_sI, gA_sR, gA_sQ, gA_sL, gA_sD, gQ_sI, gQ_sR, gQ_sA, gQ_sL, gQ_sD, gL_sI, gL_sR, gL_sA, gL_sQ, gL_sD, kd_nO, kd_nA, *]) (T := TX3) (N := 27) rfl (by first | assumption | omega) (by first | assumption | omega) (by first | assumption | omega) (Nat.le_of_ble_eq_true rfl) ?_
      refine s_opens (ty := some (nat g (102 + 21 * c))) (by omega) hM0 hB0 (fun y hy => by cases hy; rw [hg0]; exact y2) ?_
      intro H1 hU1 ho1
      rw [hg0] at ho1
      have hM1 := hM0.mf hU1.1
      have e01 := hM1.1
      have hg1 : gA H1 1068 (ma 68) = g := by rw [← hg0]; exact congrFun (hU1.g68 (by decide)) _
      show AW mX3_route G d Qr Qx _ _ H1 53 _ _
      refine r_aload_n (i := 0) dX3_route_53 rfl rfl ?_
      refine r_aload_n (i := 0) dX3_route_54 rfl rfl ?_
      refine r_iload_n (i := 1) dX3_route_55 rfl rfl ?_
      refine r_iconst (v := nI 1) dX3_route_56 (by decide) ?_
      refine r_callV (As := [_, _]) (mc' := 0) (ms' := 0) dX3_route_57 k_X3_105 rfl (by first | assumption | (simp only [kd_sI, kd_sR, kd_sA, kd_sQ, kd_sL, kd_sD, ln_sI, ln_sR, ln_sA, ln_sQ, ln_sL, ln_sD, gI_sR, gI_sA, gI_sQ, gI_sL, gI_sD, gR_sI, gR_sA, gR_sQ, gR_sL, gR_sD, gA_sI, gA_sR, gA_sQ, gA_sL, gA_sD, gQ_sI, gQ_sR, gQ_sA, gQ_sL, gQ_sD, gL_sI, gL_sR, gL_sA, gL_sQ, gL_sD]; assumption) | simp [kd_sI, kd_sR, kd_sA, kd_sQ, kd_sL, kd_sD, ln_sI, ln_sR, ln_sA, ln_sQ, ln_sL, ln_sD, gI_sR, gI_sA, gI_sQ, gI_sL, gI_sD, gR_sI, gR_sA, gR_sQ, gR_sL, gR_sD, gA_sI, gA_sR, gA_sQ, gA_sL, gA_sD, gQ_sI, gQ_sR, gQ_sA, gQ_sL, gQ_sD, gL_sI, gL_sR, gL_sA, gL_sQ, gL_sD, kd_nO, kd_nA, *]) (T := TX3) (N := 27) rfl (by first | assumption | omega) (by first | assumption | omega) (by first | assumption | omega) (Nat.le_of_ble_eq_true rfl) ?_
      refine s_cableTold (by omega) hM1 (by omega) ?_
      rw [hg1, show 102 + 21 * c + 1 = 103 + 21 * c by omega, f1]
      refine r_aload_n (i := 0) dX3_route_60 rfl rfl ?_
      refine r_iload_n (i := 1) dX3_route_61 rfl rfl ?_
      refine r_iconst (v := nI 2) dX3_route_62 (by decide) ?_
      refine r_callV (As := [_, _]) (mc' := 0) (ms' := 0) dX3_route_63 k_X3_105 rfl (by first | assumption | (simp only [kd_sI, kd_sR, kd_sA, kd_sQ, kd_sL, kd_sD, ln_sI, ln_sR, ln_sA, ln_sQ, ln_sL, ln_sD, gI_sR, gI_sA, gI_sQ, gI_sL, gI_sD, gR_sI, gR_sA, gR_sQ, gR_sL, gR_sD, gA_sI, gA_sR, gA_sQ, gA_sL, gA_sD, gQ_sI, gQ_sR, gQ_sA, gQ_sL, gQ_sD, gL_sI, gL_sR, gL_sA, gL_sQ, gL_sD]; assumption) | simp [kd_sI, kd_sR, kd_sA, kd_sQ, kd_sL, kd_sD, ln_sI, ln_sR, ln_sA, ln_sQ, ln_sL, ln_sD, gI_sR, gI_sA, gI_sQ, gI_sL, gI_sD, gR_sI, gR_sA, gR_sQ, gR_sL, gR_sD, gA_sI, gA_sR, gA_sQ, gA_sL, gA_sD, gQ_sI, gQ_sR, gQ_sA, gQ_sL, gQ_sD, gL_sI, gL_sR, gL_sA, gL_sQ, gL_sD, kd_nO, kd_nA, *]) (T := TX3) (N := 27) rfl (by first | assumption | omega) (by first | assumption | omega) (by first | assumption | omega) (Nat.le_of_ble_eq_true rfl) ?_
      refine s_cableTold (by omega) hM1 (by omega) ?_
      rw [hg1, show 102 + 21 * c + 2 = 104 + 21 * c by omega, t1]
      refine r_callV (As := [_, _]) (mc' := 0) (ms' := 0) dX3_route_66 k_X3_168 rfl (by first | assumption | (simp only [kd_sI, kd_sR, kd_sA, kd_sQ, kd_sL, kd_sD, ln_sI, ln_sR, ln_sA, ln_sQ, ln_sL, ln_sD, gI_sR, gI_sA, gI_sQ, gI_sL, gI_sD, gR_sI, gR_sA, gR_sQ, gR_sL, gR_sD, gA_sI, gA_sR, gA_sQ, gA_sL, gA_sD, gQ_sI, gQ_sR, gQ_sA, gQ_sL, gQ_sD, gL_sI, gL_sR, gL_sA, gL_sQ, gL_sD]; assumption) | simp [kd_sI, kd_sR, kd_sA, kd_sQ, kd_sL, kd_sD, ln_sI, ln_sR, ln_sA, ln_sQ, ln_sL, ln_sD, gI_sR, gI_sA, gI_sQ, gI_sL, gI_sD, gR_sI, gR_sA, gR_sQ, gR_sL, gR_sD, gA_sI, gA_sR, gA_sQ, gA_sL, gA_sD, gQ_sI, gQ_sR, gQ_sA, gQ_sL, gQ_sD, gL_sI, gL_sR, gL_sA, gL_sQ, gL_sD, kd_nO, kd_nA, *]) (T := TX3) (N := 27) rfl (by first | assumption | omega) (by first | assumption | omega) (by first | assumption | omega) (Nat.le_of_ble_eq_true rfl) ?_
      refine s_findsWay (by omega) hM1 hg1 hB' hT ho1 f2 t2 hft ?_
      intro H2 hU2 hR2'
      have hU02 : MU m ma [77, 78, 2078, 79, 80, 81, 82, 83] H H2 := ((hU0.tr hU1).tr hU2).sub (by decide)
      have hM2 := hM.mf hU02.1
      have e02 := hM2.1
      have hg2 : gA H2 1068 (ma 68) = g := by rw [hg]; exact congrFun (hU02.g68 (by decide)) _
      have h772 : gI H2 77 m = nI 0 := by rw [((hU1.tr hU2).2 77 (by decide)).1]; exact h770
      have hP2 := hP.mu hU02 (by decide) (by decide)
      have hC2' := hCh.mu hU02 (by decide) (by decide)
      have hx2 : gI H2 72 m = bI tx := by rw [(hU02.2 72 (by decide)).1]; exact hx
      show AW mX3_route G d Qr Qx _ _ H2 69 _ _
      unfold wayB at hQ
      cases hb9 : dfs g (opB g (some (nat g (102 + 21 * c)))) (nat g (104 + 21 * c)) 7 (nat g (103 + 21 * c)) (2 ^ nat g (103 + 21 * c)) [] (nI 0) none with
      | none =>
        have hr : BRep H2 m ma none := by rw [← hb9]; exact hR2'
        unfold BRep at hr
        rw [hb9] at hQ
        refine r_aload_n (i := 0) dX3_route_69 rfl rfl ?_
        refine r_getI dX3_route_70 fR_X3_151 (by first | assumption | (simp only [kd_sI, kd_sR, kd_sA, kd_sQ, kd_sL, kd_sD, ln_sI, ln_sR, ln_sA, ln_sQ, ln_sL, ln_sD, gI_sR, gI_sA, gI_sQ, gI_sL, gI_sD, gR_sI, gR_sA, gR_sQ, gR_sL, gR_sD, gA_sI, gA_sR, gA_sQ, gA_sL, gA_sD, gQ_sI, gQ_sR, gQ_sA, gQ_sL, gQ_sD, gL_sI, gL_sR, gL_sA, gL_sQ, gL_sD]; assumption) | simp [kd_sI, kd_sR, kd_sA, kd_sQ, kd_sL, kd_sD, ln_sI, ln_sR, ln_sA, ln_sQ, ln_sL, ln_sD, gI_sR, gI_sA, gI_sQ, gI_sL, gI_sD, gR_sI, gR_sA, gR_sQ, gR_sL, gR_sD, gA_sI, gA_sR, gA_sQ, gA_sL, gA_sD, gQ_sI, gQ_sR, gQ_sA, gQ_sL, gQ_sD, gL_sI, gL_sR, gL_sA, gL_sQ, gL_sD, kd_nO, kd_nA, *]) (by first | assumption | exact gI_sIs | exact gR_sRs | with_reducible rfl | (simp only [kd_sI, kd_sR, kd_sA, kd_sQ, kd_sL, kd_sD, ln_sI, ln_sR, ln_sA, ln_sQ, ln_sL, ln_sD, gI_sR, gI_sA, gI_sQ, gI_sL, gI_sD, gR_sI, gR_sA, gR_sQ, gR_sL, gR_sD, gA_sI, gA_sR, gA_sQ, gA_sL, gA_sD, gQ_sI, gQ_sR, gQ_sA, gQ_sL, gQ_sD, gL_sI, gL_sR, gL_sA, gL_sQ, gL_sD]; first | done | assumption | with_reducible rfl) | rfl) ?_
        refine r_if_ne (tgt := 82) dX3_route_73 (by decide) (fun h73 => ?_) (fun h73 => ?_)
        · exact absurd (by decide) h73
        · refine r_aload_n (i := 0) dX3_route_76 rfl rfl ?_
          refine r_iload_n (i := 1) dX3_route_77 rfl rfl ?_
          refine r_callV (As := [_]) (mc' := 0) (ms' := 0) dX3_route_78 k_X3_187 rfl (by first | assumption | (simp only [kd_sI, kd_sR, kd_sA, kd_sQ, kd_sL, kd_sD, ln_sI, ln_sR, ln_sA, ln_sQ, ln_sL, ln_sD, gI_sR, gI_sA, gI_sQ, gI_sL, gI_sD, gR_sI, gR_sA, gR_sQ, gR_sL, gR_sD, gA_sI, gA_sR, gA_sQ, gA_sL, gA_sD, gQ_sI, gQ_sR, gQ_sA, gQ_sL, gQ_sD, gL_sI, gL_sR, gL_sA, gL_sQ, gL_sD]; assumption) | simp [kd_sI, kd_sR, kd_sA, kd_sQ, kd_sL, kd_sD, ln_sI, ln_sR, ln_sA, ln_sQ, ln_sL, ln_sD, gI_sR, gI_sA, gI_sQ, gI_sL, gI_sD, gR_sI, gR_sA, gR_sQ, gR_sL, gR_sD, gA_sI, gA_sR, gA_sQ, gA_sL, gA_sD, gQ_sI, gQ_sR, gQ_sA, gQ_sL, gQ_sD, gL_sI, gL_sR, gL_sA, gL_sQ, gL_sD, kd_nO, kd_nA, *]) (T := TX3) (N := 27) rfl (by first | assumption | omega) (by first | assumption | omega) (by first | assumption | omega) (Nat.le_of_ble_eq_true rfl) ?_
          refine s_refusesWay (by omega) hM2 (by rw [hg2]; exact hB') (by rw [hg2]; exact hT) (by rw [hg2]; exact hC) (by rw [hg2]; exact hcj) ?_
          intro H3 hU3 h77 hc3
          rw [hg2] at hc3
          have hU03 : MU m ma wF H H3 := (hU02.tr hU3).sub (by decide)
          show AW mX3_route G d Qr Qx _ _ H3 81 _ _
          refine r_ireturn dX3_route_81 rfl (by first | rfl | assumption | exact vp_nar_int _ | exact pk_nc _) ?_
          exact hQ H3 hU03 h77 (by rw [← hg2]; exact congrFun (hU3.g68 (by decide)) _) (hP2.mu hU3 (by decide) (by decide)) hc3
      | some rs =>
        obtain ⟨r, s⟩ := rs
        have hr : BRep H2 m ma (some (r, s)) := by rw [← hb9]; exact hR2'
        unfold BRep at hr
        obtain ⟨r1, r2, r3, r4, r5⟩ := hr
        rw [hb9] at hQ
        dsimp only at hQ
        have hgood := wayB_good (ty := some (nat g (102 + 21 * c))) (g := g) hb9
        have hBr := GB_route hB' hcj hgood
        obtain ⟨-, l7, hall, -, -⟩ := hgood
        have r0 : r.length ≠ 0 := fun e => r2 (List.length_eq_zero_iff.mp e)
        refine r_aload_n (i := 0) dX3_route_69 rfl rfl ?_
        refine r_getI dX3_route_70 fR_X3_151 (by first | assumption | (simp only [kd_sI, kd_sR, kd_sA, kd_sQ, kd_sL, kd_sD, ln_sI, ln_sR, ln_sA, ln_sQ, ln_sL, ln_sD, gI_sR, gI_sA, gI_sQ, gI_sL, gI_sD, gR_sI, gR_sA, gR_sQ, gR_sL, gR_sD, gA_sI, gA_sR, gA_sQ, gA_sL, gA_sD, gQ_sI, gQ_sR, gQ_sA, gQ_sL, gQ_sD, gL_sI, gL_sR, gL_sA, gL_sQ, gL_sD]; assumption) | simp [kd_sI, kd_sR, kd_sA, kd_sQ, kd_sL, kd_sD, ln_sI, ln_sR, ln_sA, ln_sQ, ln_sL, ln_sD, gI_sR, gI_sA, gI_sQ, gI_sL, gI_sD, gR_sI, gR_sA, gR_sQ, gR_sL, gR_sD, gA_sI, gA_sR, gA_sQ, gA_sL, gA_sD, gQ_sI, gQ_sR, gQ_sA, gQ_sL, gQ_sD, gL_sI, gL_sR, gL_sA, gL_sQ, gL_sD, kd_nO, kd_nA, *]) (by first | assumption | exact gI_sIs | exact gR_sRs | with_reducible rfl | (simp only [kd_sI, kd_sR, kd_sA, kd_sQ, kd_sL, kd_sD, ln_sI, ln_sR, ln_sA, ln_sQ, ln_sL, ln_sD, gI_sR, gI_sA, gI_sQ, gI_sL, gI_sD, gR_sI, gR_sA, gR_sQ, gR_sL, gR_sD, gA_sI, gA_sR, gA_sQ, gA_sL, gA_sD, gQ_sI, gQ_sR, gQ_sA, gQ_sL, gQ_sD, gL_sI, gL_sR, gL_sA, gL_sQ, gL_sD]; first | done | assumption | with_reducible rfl) | rfl) ?_
        refine r_if_ne (tgt := 82) dX3_route_73 (by decide) (fun h73 => ?_) (fun h73 => ?_)
        · refine r_aload_n (i := 0) dX3_route_82 rfl rfl ?_
          refine r_callV (As := []) (mc' := 0) (ms' := 0) dX3_route_83 k_X3_87 rfl (by first | assumption | (simp only [kd_sI, kd_sR, kd_sA, kd_sQ, kd_sL, kd_sD, ln_sI, ln_sR, ln_sA, ln_sQ, ln_sL, ln_sD, gI_sR, gI_sA, gI_sQ, gI_sL, gI_sD, gR_sI, gR_sA, gR_sQ, gR_sL, gR_sD, gA_sI, gA_sR, gA_sQ, gA_sL, gA_sD, gQ_sI, gQ_sR, gQ_sA, gQ_sL, gQ_sD, gL_sI, gL_sR, gL_sA, gL_sQ, gL_sD]; assumption) | simp [kd_sI, kd_sR, kd_sA, kd_sQ, kd_sL, kd_sD, ln_sI, ln_sR, ln_sA, ln_sQ, ln_sL, ln_sD, gI_sR, gI_sA, gI_sQ, gI_sL, gI_sD, gR_sI, gR_sA, gR_sQ, gR_sL, gR_sD, gA_sI, gA_sR, gA_sQ, gA_sL, gA_sD, gQ_sI, gQ_sR, gQ_sA, gQ_sL, gQ_sD, gL_sI, gL_sR, gL_sA, gL_sQ, gL_sD, kd_nO, kd_nA, *]) (T := TX3) (N := 27) rfl (by first | assumption | omega) (by first | assumption | omega) (by first | assumption | omega) (Nat.le_of_ble_eq_true rfl) ?_
          refine s_changes (by omega) hM2 hP2 hx2 (by rw [hg2]; exact hz) ?_
          intro H3 hU3 hP3
          have hU03 : MU m ma wF H H3 := (hU02.tr hU3).sub (by decide)
          rw [hg2] at hP3
          have hM3 := hM2.mf hU3.1
          have e03 := hM3.1
          have hg3 : gA H3 1068 (ma 68) = g := by rw [← hg2]; exact congrFun (hU3.g68 (by decide)) _
          have h813 : gI H3 81 m = nI r.length := by rw [(hU3.2 81 (by decide)).1]; exact r1
          have h803 : ∀ k, k < r.length → gA H3 1080 (ma 80) k = nI (r.getD k 0) := by
            intro k hk
            rw [show gA H3 1080 = gA H2 1080 from (hU3.2 80 (by decide)).2]
            exact r5 k hk
          have hC3 := hC2'.mu hU3 (by decide) (by decide)
          have h773 : gI H3 77 m = nI 0 := by rw [(hU3.2 77 (by decide)).1]; exact h772
          have loop : ∀ (k i : Nat) (H4 : AH) (o : Option AV), i + k = r.length → MU m ma [68] H3 H4 → gA H4 1068 (ma 68) = rtF g c r i → AW mX3_route G d Qr Qx 0 0 H4 88 [some (vR (some m)), some (vI (nI c)), some (vI (nI (nat g (102 + 21 * c)))), some (vI (nI i)), o] [] := by
            intro k
            induction k with
            | zero =>
              intro i H4 o hi hU4 hg4
              have hM4 := hM3.mf hU4.1
              have e04 := hM4.1
              have h814 : gI H4 81 m = nI r.length := by rw [(hU4.2 81 (by decide)).1]; exact h813
              have hil : i = r.length := by omega
              rw [hil] at hg4
              obtain ⟨e68a_4, e68b_4, e68c_4⟩ : gR H4 68 m = some (ma 68) ∧ kd H4 (ma 68) = 1068 ∧ ln H4 (ma 68) = 385 := hM4.2 68 (by decide)
              refine r_iload_n (i := 3) dX3_route_88 rfl rfl ?_
              refine r_aload_n (i := 0) dX3_route_89 rfl rfl ?_
              refine r_getI dX3_route_90 fR_X3_151 (by first | assumption | (simp only [kd_sI, kd_sR, kd_sA, kd_sQ, kd_sL, kd_sD, ln_sI, ln_sR, ln_sA, ln_sQ, ln_sL, ln_sD, gI_sR, gI_sA, gI_sQ, gI_sL, gI_sD, gR_sI, gR_sA, gR_sQ, gR_sL, gR_sD, gA_sI, gA_sR, gA_sQ, gA_sL, gA_sD, gQ_sI, gQ_sR, gQ_sA, gQ_sL, gQ_sD, gL_sI, gL_sR, gL_sA, gL_sQ, gL_sD]; assumption) | simp [kd_sI, kd_sR, kd_sA, kd_sQ, kd_sL, kd_sD, ln_sI, ln_sR, ln_sA, ln_sQ, ln_sL, ln_sD, gI_sR, gI_sA, gI_sQ, gI_sL, gI_sD, gR_sI, gR_sA, gR_sQ, gR_sL, gR_sD, gA_sI, gA_sR, gA_sQ, gA_sL, gA_sD, gQ_sI, gQ_sR, gQ_sA, gQ_sL, gQ_sD, gL_sI, gL_sR, gL_sA, gL_sQ, gL_sD, kd_nO, kd_nA, *]) (by first | assumption | exact gI_sIs | exact gR_sRs | with_reducible rfl | (simp only [kd_sI, kd_sR, kd_sA, kd_sQ, kd_sL, kd_sD, ln_sI, ln_sR, ln_sA, ln_sQ, ln_sL, ln_sD, gI_sR, gI_sA, gI_sQ, gI_sL, gI_sD, gR_sI, gR_sA, gR_sQ, gR_sL, gR_sD, gA_sI, gA_sR, gA_sQ, gA_sL, gA_sD, gQ_sI, gQ_sR, gQ_sA, gQ_sL, gQ_sD, gL_sI, gL_sR, gL_sA, gL_sQ, gL_sD]; first | done | assumption | with_reducible rfl) | rfl) ?_
              refine r_icmp_ge (tgt := 149) dX3_route_93 (by decide) (fun h93 => ?_) (fun h93 => ?_)
              · refine r_aload_n (i := 0) dX3_route_149 rfl rfl ?_
                refine r_getR dX3_route_150 fR_X3_7 (by first | assumption | (simp only [kd_sI, kd_sR, kd_sA, kd_sQ, kd_sL, kd_sD, ln_sI, ln_sR, ln_sA, ln_sQ, ln_sL, ln_sD, gI_sR, gI_sA, gI_sQ, gI_sL, gI_sD, gR_sI, gR_sA, gR_sQ, gR_sL, gR_sD, gA_sI, gA_sR, gA_sQ, gA_sL, gA_sD, gQ_sI, gQ_sR, gQ_sA, gQ_sL, gQ_sD, gL_sI, gL_sR, gL_sA, gL_sQ, gL_sD]; assumption) | simp [kd_sI, kd_sR, kd_sA, kd_sQ, kd_sL, kd_sD, ln_sI, ln_sR, ln_sA, ln_sQ, ln_sL, ln_sD, gI_sR, gI_sA, gI_sQ, gI_sL, gI_sD, gR_sI, gR_sA, gR_sQ, gR_sL, gR_sD, gA_sI, gA_sR, gA_sQ, gA_sL, gA_sD, gQ_sI, gQ_sR, gQ_sA, gQ_sL, gQ_sD, gL_sI, gL_sR, gL_sA, gL_sQ, gL_sD, kd_nO, kd_nA, *]) (by first | assumption | exact gI_sIs | exact gR_sRs | with_reducible rfl | (simp only [kd_sI, kd_sR, kd_sA, kd_sQ, kd_sL, kd_sD, ln_sI, ln_sR, ln_sA, ln_sQ, ln_sL, ln_sD, gI_sR, gI_sA, gI_sQ, gI_sL, gI_sD, gR_sI, gR_sA, gR_sQ, gR_sL, gR_sD, gA_sI, gA_sR, gA_sQ, gA_sL, gA_sD, gQ_sI, gQ_sR, gQ_sA, gQ_sL, gQ_sD, gL_sI, gL_sR, gL_sA, gL_sQ, gL_sD]; first | done | assumption | with_reducible rfl) | rfl) ?_
                refine r_iload_n (i := 1) dX3_route_153 rfl rfl ?_
                refine r_iconst (v := nI 4) dX3_route_154 (by decide) ?_
                refine r_callS (As := [_, _]) (mc' := 0) (ms' := 0) dX3_route_155 k_X3_98 rfl (by first | assumption | omega) (by first | assumption | omega) (by first | assumption | omega) (Nat.le_of_ble_eq_true rfl) ?_
                refine s_at ?_
                refine r_aload_n (i := 0) dX3_route_158 rfl rfl ?_
                refine r_getI dX3_route_159 fR_X3_151 (by first | assumption | (simp only [kd_sI, kd_sR, kd_sA, kd_sQ, kd_sL, kd_sD, ln_sI, ln_sR, ln_sA, ln_sQ, ln_sL, ln_sD, gI_sR, gI_sA, gI_sQ, gI_sL, gI_sD, gR_sI, gR_sA, gR_sQ, gR_sL, gR_sD, gA_sI, gA_sR, gA_sQ, gA_sL, gA_sD, gQ_sI, gQ_sR, gQ_sA, gQ_sL, gQ_sD, gL_sI, gL_sR, gL_sA, gL_sQ, gL_sD]; assumption) | simp [kd_sI, kd_sR, kd_sA, kd_sQ, kd_sL, kd_sD, ln_sI, ln_sR, ln_sA, ln_sQ, ln_sL, ln_sD, gI_sR, gI_sA, gI_sQ, gI_sL, gI_sD, gR_sI, gR_sA, gR_sQ, gR_sL, gR_sD, gA_sI, gA_sR, gA_sQ, gA_sL, gA_sD, gQ_sI, gQ_sR, gQ_sA, gQ_sL, gQ_sD, gL_sI, gL_sR, gL_sA, gL_sQ, gL_sD, kd_nO, kd_nA, *]) (by first | assumption | exact gI_sIs | exact gR_sRs | with_reducible rfl | (simp only [kd_sI, kd_sR, kd_sA, kd_sQ, kd_sL, kd_sD, ln_sI, ln_sR, ln_sA, ln_sQ, ln_sL, ln_sD, gI_sR, gI_sA, gI_sQ, gI_sL, gI_sD, gR_sI, gR_sA, gR_sQ, gR_sL, gR_sD, gA_sI, gA_sR, gA_sQ, gA_sL, gA_sD, gQ_sI, gQ_sR, gQ_sA, gQ_sL, gQ_sD, gL_sI, gL_sR, gL_sA, gL_sQ, gL_sD]; first | done | assumption | with_reducible rfl) | rfl) ?_
                refine r_iast dX3_route_162 (by first | assumption | (simp only [kd_sI, kd_sR, kd_sA, kd_sQ, kd_sL, kd_sD, ln_sI, ln_sR, ln_sA, ln_sQ, ln_sL, ln_sD, gI_sR, gI_sA, gI_sQ, gI_sL, gI_sD, gR_sI, gR_sA, gR_sQ, gR_sL, gR_sD, gA_sI, gA_sR, gA_sQ, gA_sL, gA_sD, gQ_sI, gQ_sR, gQ_sA, gQ_sL, gQ_sD, gL_sI, gL_sR, gL_sA, gL_sQ, gL_sD]; assumption) | simp [kd_sI, kd_sR, kd_sA, kd_sQ, kd_sL, kd_sD, ln_sI, ln_sR, ln_sA, ln_sQ, ln_sL, ln_sD, gI_sR, gI_sA, gI_sQ, gI_sL, gI_sD, gR_sI, gR_sA, gR_sQ, gR_sL, gR_sD, gA_sI, gA_sR, gA_sQ, gA_sL, gA_sD, gQ_sI, gQ_sR, gQ_sA, gQ_sL, gQ_sD, gL_sI, gL_sR, gL_sA, gL_sQ, gL_sD, kd_nO, kd_nA, *]) (by first | decide | assumption) (by first | assumption | exact gI_sIs | exact gR_sRs | with_reducible rfl | (simp only [kd_sI, kd_sR, kd_sA, kd_sQ, kd_sL, kd_sD, ln_sI, ln_sR, ln_sA, ln_sQ, ln_sL, ln_sD, gI_sR, gI_sA, gI_sQ, gI_sL, gI_sD, gR_sI, gR_sA, gR_sQ, gR_sL, gR_sD, gA_sI, gA_sR, gA_sQ, gA_sL, gA_sD, gQ_sI, gQ_sR, gQ_sA, gQ_sL, gQ_sD, gL_sI, gL_sR, gL_sA, gL_sQ, gL_sD]; first | done | assumption | with_reducible rfl) | rfl) (by first | with_reducible rfl | assumption | (simp only [nI_add, pk_mul, nI_1]; with_reducible rfl)) (by first | assumption | omega) (by first | assumption | omega) ?_
                refine r_aload_n (i := 0) dX3_route_163 rfl rfl ?_
                refine r_getR dX3_route_164 fR_X3_7 (by first | assumption | (simp only [kd_sI, kd_sR, kd_sA, kd_sQ, kd_sL, kd_sD, ln_sI, ln_sR, ln_sA, ln_sQ, ln_sL, ln_sD, gI_sR, gI_sA, gI_sQ, gI_sL, gI_sD, gR_sI, gR_sA, gR_sQ, gR_sL, gR_sD, gA_sI, gA_sR, gA_sQ, gA_sL, gA_sD, gQ_sI, gQ_sR, gQ_sA, gQ_sL, gQ_sD, gL_sI, gL_sR, gL_sA, gL_sQ, gL_sD]; assumption) | simp [kd_sI, kd_sR, kd_sA, kd_sQ, kd_sL, kd_sD, ln_sI, ln_sR, ln_sA, ln_sQ, ln_sL, ln_sD, gI_sR, gI_sA, gI_sQ, gI_sL, gI_sD, gR_sI, gR_sA, gR_sQ, gR_sL, gR_sD, gA_sI, gA_sR, gA_sQ, gA_sL, gA_sD, gQ_sI, gQ_sR, gQ_sA, gQ_sL, gQ_sD, gL_sI, gL_sR, gL_sA, gL_sQ, gL_sD, kd_nO, kd_nA, *]) (by first | assumption | exact gI_sIs | exact gR_sRs | with_reducible rfl | (simp only [kd_sI, kd_sR, kd_sA, kd_sQ, kd_sL, kd_sD, ln_sI, ln_sR, ln_sA, ln_sQ, ln_sL, ln_sD, gI_sR, gI_sA, gI_sQ, gI_sL, gI_sD, gR_sI, gR_sA, gR_sQ, gR_sL, gR_sD, gA_sI, gA_sR, gA_sQ, gA_sL, gA_sD, gQ_sI, gQ_sR, gQ_sA, gQ_sL, gQ_sD, gL_sI, gL_sR, gL_sA, gL_sQ, gL_sD]; first | done | assumption | with_reducible rfl) | rfl) ?_
                refine r_iload_n (i := 1) dX3_route_167 rfl rfl ?_
                refine r_iconst (v := nI 3) dX3_route_168 (by decide) ?_
                refine r_callS (As := [_, _]) (mc' := 0) (ms' := 0) dX3_route_169 k_X3_98 rfl (by first | assumption | omega) (by first | assumption | omega) (by first | assumption | omega) (Nat.le_of_ble_eq_true rfl) ?_
                refine s_at ?_
                refine r_iconst (v := nI 1) dX3_route_172 (by decide) ?_
                refine r_iast dX3_route_173 (by first | assumption | (simp only [kd_sI, kd_sR, kd_sA, kd_sQ, kd_sL, kd_sD, ln_sI, ln_sR, ln_sA, ln_sQ, ln_sL, ln_sD, gI_sR, gI_sA, gI_sQ, gI_sL, gI_sD, gR_sI, gR_sA, gR_sQ, gR_sL, gR_sD, gA_sI, gA_sR, gA_sQ, gA_sL, gA_sD, gQ_sI, gQ_sR, gQ_sA, gQ_sL, gQ_sD, gL_sI, gL_sR, gL_sA, gL_sQ, gL_sD]; assumption) | simp [kd_sI, kd_sR, kd_sA, kd_sQ, kd_sL, kd_sD, ln_sI, ln_sR, ln_sA, ln_sQ, ln_sL, ln_sD, gI_sR, gI_sA, gI_sQ, gI_sL, gI_sD, gR_sI, gR_sA, gR_sQ, gR_sL, gR_sD, gA_sI, gA_sR, gA_sQ, gA_sL, gA_sD, gQ_sI, gQ_sR, gQ_sA, gQ_sL, gQ_sD, gL_sI, gL_sR, gL_sA, gL_sQ, gL_sD, kd_nO, kd_nA, *]) (by first | decide | assumption) (by first | assumption | exact gI_sIs | exact gR_sRs | with_reducible rfl | (simp only [kd_sI, kd_sR, kd_sA, kd_sQ, kd_sL, kd_sD, ln_sI, ln_sR, ln_sA, ln_sQ, ln_sL, ln_sD, gI_sR, gI_sA, gI_sQ, gI_sL, gI_sD, gR_sI, gR_sA, gR_sQ, gR_sL, gR_sD, gA_sI, gA_sR, gA_sQ, gA_sL, gA_sD, gQ_sI, gQ_sR, gQ_sA, gQ_sL, gQ_sD, gL_sI, gL_sR, gL_sA, gL_sQ, gL_sD]; first | done | assumption | with_reducible rfl) | rfl) (by first | with_reducible rfl | assumption | (simp only [nI_add, pk_mul, nI_1]; with_reducible rfl)) (by first | assumption | omega) (by first | assumption | omega) ?_
                simp only [gA_sAs, sA_sA, hg4]
                rw [show 102 + 21 * c + 4 = 106 + 21 * c by omega, show 102 + 21 * c + 3 = 105 + 21 * c by omega, rtF_e l7]
                refine AW.name (fun H5 hH5 => ?_)
                have hU5 : MU m ma [68] H3 H5 := by rw [hH5]; exact hU4.sA (f := 68) (Or.inl (by decide)) (by decide) (by decide)
                have hM5 := hM3.mf hU5.1
                have e05 := hM5.1
                have hg5 : gA H5 1068 (ma 68) = routeG g c r := by rw [hH5, gA_sAs]
                have e101 : nat (routeG g c r) 101 = nat g 101 := nat_eq (routeG_out l7 (Or.inl (by omega)))
                refine r_aload_n (i := 0) dX3_route_174 rfl rfl ?_
                refine r_iload_n (i := 1) dX3_route_175 rfl rfl ?_
                refine r_callV (As := [_]) (mc' := 0) (ms' := 0) dX3_route_176 k_X3_190 rfl (by first | assumption | (simp only [kd_sI, kd_sR, kd_sA, kd_sQ, kd_sL, kd_sD, ln_sI, ln_sR, ln_sA, ln_sQ, ln_sL, ln_sD, gI_sR, gI_sA, gI_sQ, gI_sL, gI_sD, gR_sI, gR_sA, gR_sQ, gR_sL, gR_sD, gA_sI, gA_sR, gA_sQ, gA_sL, gA_sD, gQ_sI, gQ_sR, gQ_sA, gQ_sL, gQ_sD, gL_sI, gL_sR, gL_sA, gL_sQ, gL_sD]; assumption) | simp [kd_sI, kd_sR, kd_sA, kd_sQ, kd_sL, kd_sD, ln_sI, ln_sR, ln_sA, ln_sQ, ln_sL, ln_sD, gI_sR, gI_sA, gI_sQ, gI_sL, gI_sD, gR_sI, gR_sA, gR_sQ, gR_sL, gR_sD, gA_sI, gA_sR, gA_sQ, gA_sL, gA_sD, gQ_sI, gQ_sR, gQ_sA, gQ_sL, gQ_sD, gL_sI, gL_sR, gL_sA, gL_sQ, gL_sD, kd_nO, kd_nA, *]) (T := TX3) (N := 27) rfl (by first | assumption | omega) (by first | assumption | omega) (by first | assumption | omega) (Nat.le_of_ble_eq_true rfl) ?_
                refine s_needs (by omega) hM5 (by rw [hg5]; exact hBr) (by rw [hg5, e101]; exact hcj) ?_
                rw [hg5]
                refine r_ireturn dX3_route_179 rfl (by first | rfl | assumption | exact vp_nar_int _ | exact pk_nc _) ?_
                exact hQ H5 ((hU03.tr hU5).sub (by decide)) (by rw [(hU5.2 77 (by decide)).1]; exact h773) hg5 (hP3.mu hU5 (by decide) (by decide)) (hC3.mu hU5 (by decide) (by decide))
              · exact absurd (nI_le (by omega) (by omega)) h93
            | succ k ih =>
              intro i H4 o hi hU4 hg4
              have hM4 := hM3.mf hU4.1
              have e04 := hM4.1
              have h814 : gI H4 81 m = nI r.length := by rw [(hU4.2 81 (by decide)).1]; exact h813
              have h804 : gA H4 1080 (ma 80) i = nI (r.getD i 0) := by
                rw [show gA H4 1080 = gA H3 1080 from (hU4.2 80 (by decide)).2]
                exact h803 i (by omega)
              have hrt := (hall _ (getD_mem (show i < r.length by omega))).1
              have hout := rtF_out (g := g) (c := c) (r := r) (k := i) (by omega)
              have hB4 : GB (gA H4 1068 (ma 68)) := by rw [hg4]; exact GB_cg hB' hn0 hout hcj
              obtain ⟨e68a_4, e68b_4, e68c_4⟩ : gR H4 68 m = some (ma 68) ∧ kd H4 (ma 68) = 1068 ∧ ln H4 (ma 68) = 385 := hM4.2 68 (by decide)
              obtain ⟨e80a_4, e80b_4, e80c_4⟩ : gR H4 80 m = some (ma 80) ∧ kd H4 (ma 80) = 1080 ∧ ln H4 (ma 80) = 8 := hM4.2 80 (by decide)
              refine r_iload_n (i := 3) dX3_route_88 rfl rfl ?_
              refine r_aload_n (i := 0) dX3_route_89 rfl rfl ?_
              refine r_getI dX3_route_90 fR_X3_151 (by first | assumption | (simp only [kd_sI, kd_sR, kd_sA, kd_sQ, kd_sL, kd_sD, ln_sI, ln_sR, ln_sA, ln_sQ, ln_sL, ln_sD, gI_sR, gI_sA, gI_sQ, gI_sL, gI_sD, gR_sI, gR_sA, gR_sQ, gR_sL, gR_sD, gA_sI, gA_sR, gA_sQ, gA_sL, gA_sD, gQ_sI, gQ_sR, gQ_sA, gQ_sL, gQ_sD, gL_sI, gL_sR, gL_sA, gL_sQ, gL_sD]; assumption) | simp [kd_sI, kd_sR, kd_sA, kd_sQ, kd_sL, kd_sD, ln_sI, ln_sR, ln_sA, ln_sQ, ln_sL, ln_sD, gI_sR, gI_sA, gI_sQ, gI_sL, gI_sD, gR_sI, gR_sA, gR_sQ, gR_sL, gR_sD, gA_sI, gA_sR, gA_sQ, gA_sL, gA_sD, gQ_sI, gQ_sR, gQ_sA, gQ_sL, gQ_sD, gL_sI, gL_sR, gL_sA, gL_sQ, gL_sD, kd_nO, kd_nA, *]) (by first | assumption | exact gI_sIs | exact gR_sRs | with_reducible rfl | (simp only [kd_sI, kd_sR, kd_sA, kd_sQ, kd_sL, kd_sD, ln_sI, ln_sR, ln_sA, ln_sQ, ln_sL, ln_sD, gI_sR, gI_sA, gI_sQ, gI_sL, gI_sD, gR_sI, gR_sA, gR_sQ, gR_sL, gR_sD, gA_sI, gA_sR, gA_sQ, gA_sL, gA_sD, gQ_sI, gQ_sR, gQ_sA, gQ_sL, gQ_sD, gL_sI, gL_sR, gL_sA, gL_sQ, gL_sD]; first | done | assumption | with_reducible rfl) | rfl) ?_
              refine r_icmp_ge (tgt := 149) dX3_route_93 (by decide) (fun h93 => ?_) (fun h93 => ?_)
              · exact absurd h93 (nI_ge (by omega) (by omega))
              · refine r_aload_n (i := 0) dX3_route_96 rfl rfl ?_
                refine r_aload_n (i := 0) dX3_route_97 rfl rfl ?_
                refine r_getR dX3_route_98 fR_X3_32 (by first | assumption | (simp only [kd_sI, kd_sR, kd_sA, kd_sQ, kd_sL, kd_sD, ln_sI, ln_sR, ln_sA, ln_sQ, ln_sL, ln_sD, gI_sR, gI_sA, gI_sQ, gI_sL, gI_sD, gR_sI, gR_sA, gR_sQ, gR_sL, gR_sD, gA_sI, gA_sR, gA_sQ, gA_sL, gA_sD, gQ_sI, gQ_sR, gQ_sA, gQ_sL, gQ_sD, gL_sI, gL_sR, gL_sA, gL_sQ, gL_sD]; assumption) | simp [kd_sI, kd_sR, kd_sA, kd_sQ, kd_sL, kd_sD, ln_sI, ln_sR, ln_sA, ln_sQ, ln_sL, ln_sD, gI_sR, gI_sA, gI_sQ, gI_sL, gI_sD, gR_sI, gR_sA, gR_sQ, gR_sL, gR_sD, gA_sI, gA_sR, gA_sQ, gA_sL, gA_sD, gQ_sI, gQ_sR, gQ_sA, gQ_sL, gQ_sD, gL_sI, gL_sR, gL_sA, gL_sQ, gL_sD, kd_nO, kd_nA, *]) (by first | assumption | exact gI_sIs | exact gR_sRs | with_reducible rfl | (simp only [kd_sI, kd_sR, kd_sA, kd_sQ, kd_sL, kd_sD, ln_sI, ln_sR, ln_sA, ln_sQ, ln_sL, ln_sD, gI_sR, gI_sA, gI_sQ, gI_sL, gI_sD, gR_sI, gR_sA, gR_sQ, gR_sL, gR_sD, gA_sI, gA_sR, gA_sQ, gA_sL, gA_sD, gQ_sI, gQ_sR, gQ_sA, gQ_sL, gQ_sD, gL_sI, gL_sR, gL_sA, gL_sQ, gL_sD]; first | done | assumption | with_reducible rfl) | rfl) ?_
                refine r_iload_n (i := 3) dX3_route_101 rfl rfl ?_
                refine r_iald dX3_route_102 (by first | assumption | (simp only [kd_sI, kd_sR, kd_sA, kd_sQ, kd_sL, kd_sD, ln_sI, ln_sR, ln_sA, ln_sQ, ln_sL, ln_sD, gI_sR, gI_sA, gI_sQ, gI_sL, gI_sD, gR_sI, gR_sA, gR_sQ, gR_sL, gR_sD, gA_sI, gA_sR, gA_sQ, gA_sL, gA_sD, gQ_sI, gQ_sR, gQ_sA, gQ_sL, gQ_sD, gL_sI, gL_sR, gL_sA, gL_sQ, gL_sD]; assumption) | simp [kd_sI, kd_sR, kd_sA, kd_sQ, kd_sL, kd_sD, ln_sI, ln_sR, ln_sA, ln_sQ, ln_sL, ln_sD, gI_sR, gI_sA, gI_sQ, gI_sL, gI_sD, gR_sI, gR_sA, gR_sQ, gR_sL, gR_sD, gA_sI, gA_sR, gA_sQ, gA_sL, gA_sD, gQ_sI, gQ_sR, gQ_sA, gQ_sL, gQ_sD, gL_sI, gL_sR, gL_sA, gL_sQ, gL_sD, kd_nO, kd_nA, *]) (by first | decide | assumption) (by first | assumption | exact gI_sIs | exact gR_sRs | with_reducible rfl | (simp only [kd_sI, kd_sR, kd_sA, kd_sQ, kd_sL, kd_sD, ln_sI, ln_sR, ln_sA, ln_sQ, ln_sL, ln_sD, gI_sR, gI_sA, gI_sQ, gI_sL, gI_sD, gR_sI, gR_sA, gR_sQ, gR_sL, gR_sD, gA_sI, gA_sR, gA_sQ, gA_sL, gA_sD, gQ_sI, gQ_sR, gQ_sA, gQ_sL, gQ_sD, gL_sI, gL_sR, gL_sA, gL_sQ, gL_sD]; first | done | assumption | with_reducible rfl) | rfl) (by first | with_reducible rfl | assumption | (simp only [nI_add, pk_mul, nI_1]; with_reducible rfl)) (by first | assumption | omega) (by first | assumption | omega) (by first | assumption | exact gI_sIs | exact gR_sRs | with_reducible rfl | (simp only [kd_sI, kd_sR, kd_sA, kd_sQ, kd_sL, kd_sD, ln_sI, ln_sR, ln_sA, ln_sQ, ln_sL, ln_sD, gI_sR, gI_sA, gI_sQ, gI_sL, gI_sD, gR_sI, gR_sA, gR_sQ, gR_sL, gR_sD, gA_sI, gA_sR, gA_sQ, gA_sL, gA_sD, gQ_sI, gQ_sR, gQ_sA, gQ_sL, gQ_sD, gL_sI, gL_sR, gL_sA, gL_sQ, gL_sD]; first | done | assumption | with_reducible rfl) | rfl) ?_
                refine r_iload_n (i := 2) dX3_route_103 rfl rfl ?_
                refine r_callV (As := [_, _]) (mc' := 0) (ms' := 0) dX3_route_104 k_X3_142 rfl (by first | assumption | (simp only [kd_sI, kd_sR, kd_sA, kd_sQ, kd_sL, kd_sD, ln_sI, ln_sR, ln_sA, ln_sQ, ln_sL, ln_sD, gI_sR, gI_sA, gI_sQ, gI_sL, gI_sD, gR_sI, gR_sA, gR_sQ, gR_sL, gR_sD, gA_sI, gA_sR, gA_sQ, gA_sL, gA_sD, gQ_sI, gQ_sR, gQ_sA, gQ_sL, gQ_sD, gL_sI, gL_sR, gL_sA, gL_sQ, gL_sD]; assumption) | simp [kd_sI, kd_sR, kd_sA, kd_sQ, kd_sL, kd_sD, ln_sI, ln_sR, ln_sA, ln_sQ, ln_sL, ln_sD, gI_sR, gI_sA, gI_sQ, gI_sL, gI_sD, gR_sI, gR_sA, gR_sQ, gR_sL, gR_sD, gA_sI, gA_sR, gA_sQ, gA_sL, gA_sD, gQ_sI, gQ_sR, gQ_sA, gQ_sL, gQ_sD, gL_sI, gL_sR, gL_sA, gL_sQ, gL_sD, kd_nO, kd_nA, *]) (T := TX3) (N := 27) rfl (by first | assumption | omega) (by first | assumption | omega) (by first | assumption | omega) (Nat.le_of_ble_eq_true rfl) ?_
                refine s_placeIn (by omega) hM4 hB4 (by rw [hg4, nat_eq (hout 40 (by omega))]; exact hrt) (by rw [hg4, nat_eq (hout 3 (by omega))]; exact y2) ?_
                rw [hg4, q_place_cg hB' hn0 hout (by omega) (by omega)]
                refine r_istore dX3_route_107 (Nat.le_of_ble_eq_true rfl) (by simp only [lset]; rfl) ?_
                refine r_aload_n (i := 0) dX3_route_109 rfl rfl ?_
                refine r_getR dX3_route_110 fR_X3_7 (by first | assumption | (simp only [kd_sI, kd_sR, kd_sA, kd_sQ, kd_sL, kd_sD, ln_sI, ln_sR, ln_sA, ln_sQ, ln_sL, ln_sD, gI_sR, gI_sA, gI_sQ, gI_sL, gI_sD, gR_sI, gR_sA, gR_sQ, gR_sL, gR_sD, gA_sI, gA_sR, gA_sQ, gA_sL, gA_sD, gQ_sI, gQ_sR, gQ_sA, gQ_sL, gQ_sD, gL_sI, gL_sR, gL_sA, gL_sQ, gL_sD]; assumption) | simp [kd_sI, kd_sR, kd_sA, kd_sQ, kd_sL, kd_sD, ln_sI, ln_sR, ln_sA, ln_sQ, ln_sL, ln_sD, gI_sR, gI_sA, gI_sQ, gI_sL, gI_sD, gR_sI, gR_sA, gR_sQ, gR_sL, gR_sD, gA_sI, gA_sR, gA_sQ, gA_sL, gA_sD, gQ_sI, gQ_sR, gQ_sA, gQ_sL, gQ_sD, gL_sI, gL_sR, gL_sA, gL_sQ, gL_sD, kd_nO, kd_nA, *]) (by first | assumption | exact gI_sIs | exact gR_sRs | with_reducible rfl | (simp only [kd_sI, kd_sR, kd_sA, kd_sQ, kd_sL, kd_sD, ln_sI, ln_sR, ln_sA, ln_sQ, ln_sL, ln_sD, gI_sR, gI_sA, gI_sQ, gI_sL, gI_sD, gR_sI, gR_sA, gR_sQ, gR_sL, gR_sD, gA_sI, gA_sR, gA_sQ, gA_sL, gA_sD, gQ_sI, gQ_sR, gQ_sA, gQ_sL, gQ_sD, gL_sI, gL_sR, gL_sA, gL_sQ, gL_sD]; first | done | assumption | with_reducible rfl) | rfl) ?_
                refine r_iload_n (i := 1) dX3_route_113 rfl rfl ?_
                refine r_bipush (v := nI 14) dX3_route_114 (by decide) ?_
                refine r_iload_n (i := 3) dX3_route_116 rfl rfl ?_
                refine r_iadd dX3_route_117 ?_
                try simp only [nI_add, pk_mul, nI_1]
                refine r_callS (As := [_, _]) (mc' := 0) (ms' := 0) dX3_route_118 k_X3_98 rfl (by first | assumption | omega) (by first | assumption | omega) (by first | assumption | omega) (Nat.le_of_ble_eq_true rfl) ?_
                refine s_at ?_
                rw [show 102 + 21 * c + (14 + i) = 116 + 21 * c + i by omega]
                refine r_iload dX3_route_121 rfl ?_
                refine r_iast dX3_route_123 (by first | assumption | (simp only [kd_sI, kd_sR, kd_sA, kd_sQ, kd_sL, kd_sD, ln_sI, ln_sR, ln_sA, ln_sQ, ln_sL, ln_sD, gI_sR, gI_sA, gI_sQ, gI_sL, gI_sD, gR_sI, gR_sA, gR_sQ, gR_sL, gR_sD, gA_sI, gA_sR, gA_sQ, gA_sL, gA_sD, gQ_sI, gQ_sR, gQ_sA, gQ_sL, gQ_sD, gL_sI, gL_sR, gL_sA, gL_sQ, gL_sD]; assumption) | simp [kd_sI, kd_sR, kd_sA, kd_sQ, kd_sL, kd_sD, ln_sI, ln_sR, ln_sA, ln_sQ, ln_sL, ln_sD, gI_sR, gI_sA, gI_sQ, gI_sL, gI_sD, gR_sI, gR_sA, gR_sQ, gR_sL, gR_sD, gA_sI, gA_sR, gA_sQ, gA_sL, gA_sD, gQ_sI, gQ_sR, gQ_sA, gQ_sL, gQ_sD, gL_sI, gL_sR, gL_sA, gL_sQ, gL_sD, kd_nO, kd_nA, *]) (by first | decide | assumption) (by first | assumption | exact gI_sIs | exact gR_sRs | with_reducible rfl | (simp only [kd_sI, kd_sR, kd_sA, kd_sQ, kd_sL, kd_sD, ln_sI, ln_sR, ln_sA, ln_sQ, ln_sL, ln_sD, gI_sR, gI_sA, gI_sQ, gI_sL, gI_sD, gR_sI, gR_sA, gR_sQ, gR_sL, gR_sD, gA_sI, gA_sR, gA_sQ, gA_sL, gA_sD, gQ_sI, gQ_sR, gQ_sA, gQ_sL, gQ_sD, gL_sI, gL_sR, gL_sA, gL_sQ, gL_sD]; first | done | assumption | with_reducible rfl) | rfl) (by first | with_reducible rfl | assumption | (simp only [nI_add, pk_mul, nI_1]; with_reducible rfl)) (by first | assumption | omega) (by first | assumption | omega) ?_
                refine r_aload_n (i := 0) dX3_route_124 rfl rfl ?_
                refine r_getR dX3_route_125 fR_X3_7 (by first | assumption | (simp only [kd_sI, kd_sR, kd_sA, kd_sQ, kd_sL, kd_sD, ln_sI, ln_sR, ln_sA, ln_sQ, ln_sL, ln_sD, gI_sR, gI_sA, gI_sQ, gI_sL, gI_sD, gR_sI, gR_sA, gR_sQ, gR_sL, gR_sD, gA_sI, gA_sR, gA_sQ, gA_sL, gA_sD, gQ_sI, gQ_sR, gQ_sA, gQ_sL, gQ_sD, gL_sI, gL_sR, gL_sA, gL_sQ, gL_sD]; assumption) | simp [kd_sI, kd_sR, kd_sA, kd_sQ, kd_sL, kd_sD, ln_sI, ln_sR, ln_sA, ln_sQ, ln_sL, ln_sD, gI_sR, gI_sA, gI_sQ, gI_sL, gI_sD, gR_sI, gR_sA, gR_sQ, gR_sL, gR_sD, gA_sI, gA_sR, gA_sQ, gA_sL, gA_sD, gQ_sI, gQ_sR, gQ_sA, gQ_sL, gQ_sD, gL_sI, gL_sR, gL_sA, gL_sQ, gL_sD, kd_nO, kd_nA, *]) (by first | assumption | exact gI_sIs | exact gR_sRs | with_reducible rfl | (simp only [kd_sI, kd_sR, kd_sA, kd_sQ, kd_sL, kd_sD, ln_sI, ln_sR, ln_sA, ln_sQ, ln_sL, ln_sD, gI_sR, gI_sA, gI_sQ, gI_sL, gI_sD, gR_sI, gR_sA, gR_sQ, gR_sL, gR_sD, gA_sI, gA_sR, gA_sQ, gA_sL, gA_sD, gQ_sI, gQ_sR, gQ_sA, gQ_sL, gQ_sD, gL_sI, gL_sR, gL_sA, gL_sQ, gL_sD]; first | done | assumption | with_reducible rfl) | rfl) ?_
                refine r_iload_n (i := 1) dX3_route_128 rfl rfl ?_
                refine r_bipush (v := nI 7) dX3_route_129 (by decide) ?_
                refine r_iload_n (i := 3) dX3_route_131 rfl rfl ?_
                refine r_iadd dX3_route_132 ?_
                try simp only [nI_add, pk_mul, nI_1]
                refine r_callS (As := [_, _]) (mc' := 0) (ms' := 0) dX3_route_133 k_X3_98 rfl (by first | assumption | omega) (by first | assumption | omega) (by first | assumption | omega) (Nat.le_of_ble_eq_true rfl) ?_
                refine s_at ?_
                rw [show 102 + 21 * c + (7 + i) = 109 + 21 * c + i by omega]
                refine r_aload_n (i := 0) dX3_route_136 rfl rfl ?_
                refine r_getR dX3_route_137 fR_X3_32 (by first | assumption | (simp only [kd_sI, kd_sR, kd_sA, kd_sQ, kd_sL, kd_sD, ln_sI, ln_sR, ln_sA, ln_sQ, ln_sL, ln_sD, gI_sR, gI_sA, gI_sQ, gI_sL, gI_sD, gR_sI, gR_sA, gR_sQ, gR_sL, gR_sD, gA_sI, gA_sR, gA_sQ, gA_sL, gA_sD, gQ_sI, gQ_sR, gQ_sA, gQ_sL, gQ_sD, gL_sI, gL_sR, gL_sA, gL_sQ, gL_sD]; assumption) | simp [kd_sI, kd_sR, kd_sA, kd_sQ, kd_sL, kd_sD, ln_sI, ln_sR, ln_sA, ln_sQ, ln_sL, ln_sD, gI_sR, gI_sA, gI_sQ, gI_sL, gI_sD, gR_sI, gR_sA, gR_sQ, gR_sL, gR_sD, gA_sI, gA_sR, gA_sQ, gA_sL, gA_sD, gQ_sI, gQ_sR, gQ_sA, gQ_sL, gQ_sD, gL_sI, gL_sR, gL_sA, gL_sQ, gL_sD, kd_nO, kd_nA, *]) (by first | assumption | exact gI_sIs | exact gR_sRs | with_reducible rfl | (simp only [kd_sI, kd_sR, kd_sA, kd_sQ, kd_sL, kd_sD, ln_sI, ln_sR, ln_sA, ln_sQ, ln_sL, ln_sD, gI_sR, gI_sA, gI_sQ, gI_sL, gI_sD, gR_sI, gR_sA, gR_sQ, gR_sL, gR_sD, gA_sI, gA_sR, gA_sQ, gA_sL, gA_sD, gQ_sI, gQ_sR, gQ_sA, gQ_sL, gQ_sD, gL_sI, gL_sR, gL_sA, gL_sQ, gL_sD]; first | done | assumption | with_reducible rfl) | rfl) ?_
                refine r_iload_n (i := 3) dX3_route_140 rfl rfl ?_
                refine r_iald dX3_route_141 (by first | assumption | (simp only [kd_sI, kd_sR, kd_sA, kd_sQ, kd_sL, kd_sD, ln_sI, ln_sR, ln_sA, ln_sQ, ln_sL, ln_sD, gI_sR, gI_sA, gI_sQ, gI_sL, gI_sD, gR_sI, gR_sA, gR_sQ, gR_sL, gR_sD, gA_sI, gA_sR, gA_sQ, gA_sL, gA_sD, gQ_sI, gQ_sR, gQ_sA, gQ_sL, gQ_sD, gL_sI, gL_sR, gL_sA, gL_sQ, gL_sD]; assumption) | simp [kd_sI, kd_sR, kd_sA, kd_sQ, kd_sL, kd_sD, ln_sI, ln_sR, ln_sA, ln_sQ, ln_sL, ln_sD, gI_sR, gI_sA, gI_sQ, gI_sL, gI_sD, gR_sI, gR_sA, gR_sQ, gR_sL, gR_sD, gA_sI, gA_sR, gA_sQ, gA_sL, gA_sD, gQ_sI, gQ_sR, gQ_sA, gQ_sL, gQ_sD, gL_sI, gL_sR, gL_sA, gL_sQ, gL_sD, kd_nO, kd_nA, *]) (by first | decide | assumption) (by first | assumption | exact gI_sIs | exact gR_sRs | with_reducible rfl | (simp only [kd_sI, kd_sR, kd_sA, kd_sQ, kd_sL, kd_sD, ln_sI, ln_sR, ln_sA, ln_sQ, ln_sL, ln_sD, gI_sR, gI_sA, gI_sQ, gI_sL, gI_sD, gR_sI, gR_sA, gR_sQ, gR_sL, gR_sD, gA_sI, gA_sR, gA_sQ, gA_sL, gA_sD, gQ_sI, gQ_sR, gQ_sA, gQ_sL, gQ_sD, gL_sI, gL_sR, gL_sA, gL_sQ, gL_sD]; first | done | assumption | with_reducible rfl) | rfl) (by first | with_reducible rfl | assumption | (simp only [nI_add, pk_mul, nI_1]; with_reducible rfl)) (by first | assumption | omega) (by first | assumption | omega) (by first | assumption | exact gI_sIs | exact gR_sRs | with_reducible rfl | (simp only [kd_sI, kd_sR, kd_sA, kd_sQ, kd_sL, kd_sD, ln_sI, ln_sR, ln_sA, ln_sQ, ln_sL, ln_sD, gI_sR, gI_sA, gI_sQ, gI_sL, gI_sD, gR_sI, gR_sA, gR_sQ, gR_sL, gR_sD, gA_sI, gA_sR, gA_sQ, gA_sL, gA_sD, gQ_sI, gQ_sR, gQ_sA, gQ_sL, gQ_sD, gL_sI, gL_sR, gL_sA, gL_sQ, gL_sD]; first | done | assumption | with_reducible rfl) | rfl) ?_
                refine r_iast dX3_route_142 (by first | assumption | (simp only [kd_sI, kd_sR, kd_sA, kd_sQ, kd_sL, kd_sD, ln_sI, ln_sR, ln_sA, ln_sQ, ln_sL, ln_sD, gI_sR, gI_sA, gI_sQ, gI_sL, gI_sD, gR_sI, gR_sA, gR_sQ, gR_sL, gR_sD, gA_sI, gA_sR, gA_sQ, gA_sL, gA_sD, gQ_sI, gQ_sR, gQ_sA, gQ_sL, gQ_sD, gL_sI, gL_sR, gL_sA, gL_sQ, gL_sD]; assumption) | simp [kd_sI, kd_sR, kd_sA, kd_sQ, kd_sL, kd_sD, ln_sI, ln_sR, ln_sA, ln_sQ, ln_sL, ln_sD, gI_sR, gI_sA, gI_sQ, gI_sL, gI_sD, gR_sI, gR_sA, gR_sQ, gR_sL, gR_sD, gA_sI, gA_sR, gA_sQ, gA_sL, gA_sD, gQ_sI, gQ_sR, gQ_sA, gQ_sL, gQ_sD, gL_sI, gL_sR, gL_sA, gL_sQ, gL_sD, kd_nO, kd_nA, *]) (by first | decide | assumption) (by first | assumption | exact gI_sIs | exact gR_sRs | with_reducible rfl | (simp only [kd_sI, kd_sR, kd_sA, kd_sQ, kd_sL, kd_sD, ln_sI, ln_sR, ln_sA, ln_sQ, ln_sL, ln_sD, gI_sR, gI_sA, gI_sQ, gI_sL, gI_sD, gR_sI, gR_sA, gR_sQ, gR_sL, gR_sD, gA_sI, gA_sR, gA_sQ, gA_sL, gA_sD, gQ_sI, gQ_sR, gQ_sA, gQ_sL, gQ_sD, gL_sI, gL_sR, gL_sA, gL_sQ, gL_sD]; first | done | assumption | with_reducible rfl) | rfl) (by first | with_reducible rfl | assumption | (simp only [nI_add, pk_mul, nI_1]; with_reducible rfl)) (by first | assumption | omega) (by first | assumption | omega) ?_
                refine r_iinc dX3_route_143 rfl (by first | exact nI_1 _ | rfl) (by simp only [lset]; rfl) ?_
                refine r_goto (tgt := 88) dX3_route_146 (by decide) ?_
                refine ih (i + 1) _ _ (by omega) ((hU4.sA (f := 68) (Or.inl (by decide)) (by decide) (by decide)).sA (f := 68) (Or.inl (by decide)) (by decide) (by decide)) ?_
                rw [gA_sAs, gA_sAs, hg4, rtF_s (by omega)]
          show AW mX3_route G d Qr Qx _ _ H3 86 _ _
          refine r_iconst (v := nI 0) dX3_route_86 (by decide) ?_
          refine r_istore_n (i := 3) dX3_route_87 rfl (Nat.le_of_ble_eq_true rfl) (by simp only [lset]; rfl) ?_
          exact loop r.length 0 H3 _ (by omega) MU.rf (by rw [rtF_0]; exact hg3)
        · exact absurd h73 (nI_ne0 (by omega) (by omega))
    · rw [if_neg h26] at hQ
      refine r_aload_n (i := 0) dX3_route_29 rfl rfl ?_
      refine r_iconst (v := nI 2) dX3_route_30 (by decide) ?_
      refine r_aload_n (i := 0) dX3_route_31 rfl rfl ?_
      refine r_iload_n (i := 1) dX3_route_32 rfl rfl ?_
      refine r_iconst (v := nI 3) dX3_route_33 (by decide) ?_
      refine r_callV (As := [_, _]) (mc' := 0) (ms' := 0) dX3_route_34 k_X3_105 rfl (by first | assumption | (simp only [kd_sI, kd_sR, kd_sA, kd_sQ, kd_sL, kd_sD, ln_sI, ln_sR, ln_sA, ln_sQ, ln_sL, ln_sD, gI_sR, gI_sA, gI_sQ, gI_sL, gI_sD, gR_sI, gR_sA, gR_sQ, gR_sL, gR_sD, gA_sI, gA_sR, gA_sQ, gA_sL, gA_sD, gQ_sI, gQ_sR, gQ_sA, gQ_sL, gQ_sD, gL_sI, gL_sR, gL_sA, gL_sQ, gL_sD]; assumption) | simp [kd_sI, kd_sR, kd_sA, kd_sQ, kd_sL, kd_sD, ln_sI, ln_sR, ln_sA, ln_sQ, ln_sL, ln_sD, gI_sR, gI_sA, gI_sQ, gI_sL, gI_sD, gR_sI, gR_sA, gR_sQ, gR_sL, gR_sD, gA_sI, gA_sR, gA_sQ, gA_sL, gA_sD, gQ_sI, gQ_sR, gQ_sA, gQ_sL, gQ_sD, gL_sI, gL_sR, gL_sA, gL_sQ, gL_sD, kd_nO, kd_nA, *]) (T := TX3) (N := 27) rfl (by first | assumption | omega) (by first | assumption | omega) (by first | assumption | omega) (Nat.le_of_ble_eq_true rfl) ?_
      refine s_cableTold (by omega) hM0 (by omega) ?_
      rw [hg0, show 102 + 21 * c + 3 = 105 + 21 * c by omega]
      refine r_callV (As := [_, _]) (mc' := 0) (ms' := 0) dX3_route_37 k_X3_181 rfl (by first | assumption | (simp only [kd_sI, kd_sR, kd_sA, kd_sQ, kd_sL, kd_sD, ln_sI, ln_sR, ln_sA, ln_sQ, ln_sL, ln_sD, gI_sR, gI_sA, gI_sQ, gI_sL, gI_sD, gR_sI, gR_sA, gR_sQ, gR_sL, gR_sD, gA_sI, gA_sR, gA_sQ, gA_sL, gA_sD, gQ_sI, gQ_sR, gQ_sA, gQ_sL, gQ_sD, gL_sI, gL_sR, gL_sA, gL_sQ, gL_sD]; assumption) | simp [kd_sI, kd_sR, kd_sA, kd_sQ, kd_sL, kd_sD, ln_sI, ln_sR, ln_sA, ln_sQ, ln_sL, ln_sD, gI_sR, gI_sA, gI_sQ, gI_sL, gI_sD, gR_sI, gR_sA, gR_sQ, gR_sL, gR_sD, gA_sI, gA_sR, gA_sQ, gA_sL, gA_sD, gQ_sI, gQ_sR, gQ_sA, gQ_sL, gQ_sD, gL_sI, gL_sR, gL_sA, gL_sQ, gL_sD, kd_nO, kd_nA, *]) (T := TX3) (N := 27) rfl (by first | assumption | omega) (by first | assumption | omega) (by first | assumption | omega) (Nat.le_of_ble_eq_true rfl) ?_
      refine s_refuses (by omega) hM0 ?_
      intro H3 hU3 hR3 h77
      show AW mX3_route G d Qr Qx _ _ H3 40 _ _
      refine r_ireturn dX3_route_40 rfl (by first | rfl | assumption | exact vp_nar_int _ | exact pk_nc _) ?_
      exact hQ H3 ((hU0.tr hU3).sub (by decide)) h77 (by rw [← hg0]; exact congrFun (hU3.g68 (by decide)) _) (hP0.mu hU3 (by decide) (by decide)) hR3
  · unfold u_route at hQ
    rw [if_pos (show isC g c = false from bI_eq0.mp h10)] at hQ
    refine r_aload_n (i := 0) dX3_route_13 rfl rfl ?_
    refine r_iconst (v := nI 1) dX3_route_14 (by decide) ?_
    refine r_iload_n (i := 1) dX3_route_15 rfl rfl ?_
    refine r_callV (As := [_, _]) (mc' := 0) (ms' := 0) dX3_route_16 k_X3_181 rfl (by first | assumption | (simp only [kd_sI, kd_sR, kd_sA, kd_sQ, kd_sL, kd_sD, ln_sI, ln_sR, ln_sA, ln_sQ, ln_sL, ln_sD, gI_sR, gI_sA, gI_sQ, gI_sL, gI_sD, gR_sI, gR_sA, gR_sQ, gR_sL, gR_sD, gA_sI, gA_sR, gA_sQ, gA_sL, gA_sD, gQ_sI, gQ_sR, gQ_sA, gQ_sL, gQ_sD, gL_sI, gL_sR, gL_sA, gL_sQ, gL_sD]; assumption) | simp [kd_sI, kd_sR, kd_sA, kd_sQ, kd_sL, kd_sD, ln_sI, ln_sR, ln_sA, ln_sQ, ln_sL, ln_sD, gI_sR, gI_sA, gI_sQ, gI_sL, gI_sD, gR_sI, gR_sA, gR_sQ, gR_sL, gR_sD, gA_sI, gA_sR, gA_sQ, gA_sL, gA_sD, gQ_sI, gQ_sR, gQ_sA, gQ_sL, gQ_sD, gL_sI, gL_sR, gL_sA, gL_sQ, gL_sD, kd_nO, kd_nA, *]) (T := TX3) (N := 27) rfl (by first | assumption | omega) (by first | assumption | omega) (by first | assumption | omega) (Nat.le_of_ble_eq_true rfl) ?_
    refine s_refuses (by omega) hM0 ?_
    intro H3 hU3 hR3 h77
    show AW mX3_route G d Qr Qx _ _ H3 19 _ _
    refine r_ireturn dX3_route_19 rfl (by first | rfl | assumption | exact vp_nar_int _ | exact pk_nc _) ?_
    exact hQ H3 ((hU0.tr hU3).sub (by decide)) h77 (by rw [← hg0]; exact congrFun (hU3.g68 (by decide)) _) (hP0.mu hU3 (by decide) (by decide)) hR3
end Mo15
