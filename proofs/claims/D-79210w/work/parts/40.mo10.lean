set_option maxRecDepth 100000
/-! the chain, what is undone, what is kept -/
theorem up2_up2 {α : Type} {f : Nat → Nat → α} {i j : Nat} {v w : α} : up2 (up2 f i j v) i j w = up2 f i j w := by
  funext i' j'
  unfold up2
  by_cases h : i' = i ∧ j' = j
  · rw [if_pos h, if_pos h]
  · rw [if_neg h, if_neg h, if_neg h]
theorem up2_self {α : Type} {f : Nat → Nat → α} {i j : Nat} : up2 f i j (f i j) = f := by
  funext i' j'
  unfold up2
  by_cases h : i' = i ∧ j' = j
  · rw [if_pos h, h.1, h.2]
  · rw [if_neg h]
theorem sA_sA {H : AH} {k a : Nat} {F F' : Nat → Int32} : sA (sA H k a F) k a F' = sA H k a F' := by
  show (_, _, _, _, up2 (up2 _ k a F) k a F', _) = _
  rw [up2_up2]
  rfl
theorem sA_self {H : AH} {k a : Nat} : sA H k a (gA H k a) = H := by
  show (_, _, _, _, up2 H.2.2.2.2.1 k a (H.2.2.2.2.1 k a), _) = _
  rw [up2_self]
def cpF (F : Nat → Int32) (p q n : Nat) (T : Nat → Int32) : Nat → Int32 := fun j => if q ≤ j ∧ j < q + n then F (p + (j - q)) else T j
theorem cpF_0 {F : Nat → Int32} {p q : Nat} {T : Nat → Int32} : cpF F p q 0 T = T := by
  funext j
  unfold cpF
  rw [if_neg (by omega)]
theorem cpF_s {F : Nat → Int32} {p q n : Nat} {T : Nat → Int32} : upd (cpF F p q n T) (q + n) (F (p + n)) = cpF F p q (n + 1) T := by
  funext j
  unfold upd cpF
  by_cases h : j = q + n
  · rw [if_pos h, if_pos (by omega), h, Nat.add_sub_cancel_left]
  · rw [if_neg h]
    by_cases h2 : q ≤ j ∧ j < q + n
    · rw [if_pos h2, if_pos (by omega)]
    · rw [if_neg h2, if_neg (by omega)]
def ZT (g : Nat → Int32) : Prop := ∀ i, 385 ≤ i → g i = nI 0
def z0 : Nat → Int32 := fun _ => nI 0
def g0 : Nat → Int32 := fun j => if j = 0 then nI 20 else if j = 1 then nI 2 else nI 0
def PastR (H : AH) (m : Nat) (ma : Nat → Nat) (L : List (Nat → Int32)) : Prop := gI H 74 m = nI L.length ∧ L.length ≤ 8 ∧ (∀ k j, k < L.length → j < 385 → gA H 1073 (ma 73) (385 * k + j) = L.getD k z0 j) ∧ ∀ k, ZT (L.getD k z0)
theorem PastR.mu {H H' : AH} {m : Nat} {ma : Nat → Nat} {L : List (Nat → Int32)} {fs : List Nat} (h : PastR H m ma L) (k : MU m ma fs H H') (h1 : 73 ∉ fs) (h2 : 74 ∉ fs) : PastR H' m ma L := by
  obtain ⟨a, b, c, e⟩ := h
  refine ⟨by rw [(k.2 74 h2).1]; exact a, b, ?_, e⟩
  intro k1 j hk hj
  rw [show gA H' 1073 = gA H 1073 from (k.2 73 h1).2]
  exact c k1 j hk hj
theorem ChR.mu {H H' : AH} {m : Nat} {ma : Nat → Nat} {L : List Int32} {fs : List Nat} (h : ChR H m ma L) (k : MU m ma fs H H') (h1 : 75 ∉ fs) (h2 : 76 ∉ fs) : ChR H' m ma L := by
  obtain ⟨a, b, c⟩ := h
  refine ⟨by rw [(k.2 76 h2).1]; exact a, b, ?_⟩
  intro k1 hk
  rw [show gA H' 1075 = gA H 1075 from (k.2 75 h1).2]
  exact c k1 hk
def keepL (L : List (Nat → Int32)) (r : Nat → Int32) : List (Nat → Int32) := (if L.length = 8 then L.tail else L) ++ [r]
def chgL (b : Bool) (L : List (Nat → Int32)) (r : Nat → Int32) : List (Nat → Int32) := if b then L else keepL L r
section Mo10
variable {G : Gl} {d m : Nat} {ma : Nat → Nat} {Qr : Option AV → AH → Prop} {Qx : String → Nat → AH → Prop} {H : AH}
theorem s_copies {a b k1 k2 n1 n2 p q : Nat} (ha : kd H a = k1) (hb : kd H b = k2) (hk1 : k1 / 1000 = 1) (hk2 : k2 / 1000 = 1) (hne : ¬ (k1 = k2 ∧ a = b)) (hn1 : ln H a = n1) (hn2 : ln H b = n2) (hp : p + 385 ≤ n1) (hq : q + 385 ≤ n2) (h1 : n1 < 65536) (h2 : n2 < 65536)
    (hQ : Qr none (sA H k2 b (cpF (gA H k1 a) p q 385 (gA H k2 b)))) : AMet G d 0 0 yX3_copies wX3_copies H [vR (some a), vI (nI p), vR (some b), vI (nI q)] Qr Qx := by
  refine AMet.of (M := mX3_copies) (maxL := 5) rfl rfl (Nat.le_of_ble_eq_true rfl) ?_
  show AW mX3_copies _ _ _ _ _ _ _ 0 [some (vR (some a)), some (vI (nI p)), some (vR (some b)), some (vI (nI q)), none] []
  refine r_iconst (v := nI 0) dX3_copies_0 (by decide) ?_
  refine r_istore dX3_copies_1 (Nat.le_of_ble_eq_true rfl) (by simp only [lset]; rfl) ?_
  have loop : ∀ (k i : Nat) (H1 : AH), i + k = 385 → H1 = sA H k2 b (cpF (gA H k1 a) p q i (gA H k2 b)) → AW mX3_copies G d Qr Qx 0 0 H1 3 [some (vR (some a)), some (vI (nI p)), some (vR (some b)), some (vI (nI q)), some (vI (nI i))] [] := by
    intro k
    induction k with
    | zero =>
      intro i H1 hi hH
      rw [show i = 385 by omega] at hH ⊢
      rw [← hH] at hQ
      refine r_iload dX3_copies_3 rfl ?_
      refine r_sipush (v := nI 385) dX3_copies_5 (by decide) ?_
      refine r_icmp_ge (tgt := 29) dX3_copies_8 (by decide) (fun h8 => ?_) (fun h8 => ?_)
      · refine r_return dX3_copies_29 rfl ?_
        exact hQ
      · exact absurd (by decide) h8
    | succ k ih =>
      intro i H1 hi hH
      have c1 : kd H1 a = k1 := by rw [hH]; exact ha
      have c2 : kd H1 b = k2 := by rw [hH]; exact hb
      have c3 : ln H1 a = n1 := by rw [hH]; exact hn1
      have c4 : ln H1 b = n2 := by rw [hH]; exact hn2
      have c5 : gA H1 k1 a (p + i) = gA H k1 a (p + i) := by rw [hH, gA_sA, if_neg hne]
      have c6 : gA H1 k2 b = cpF (gA H k1 a) p q i (gA H k2 b) := by rw [hH, gA_sAs]
      refine r_iload dX3_copies_3 rfl ?_
      refine r_sipush (v := nI 385) dX3_copies_5 (by decide) ?_
      refine r_icmp_ge (tgt := 29) dX3_copies_8 (by decide) (fun h8 => ?_) (fun h8 => ?_)
      · exact absurd h8 (nI_ge (by omega) (by omega))
      · refine r_aload_n (i := 2) dX3_copies_11 rfl rfl ?_
        refine r_iload_n (i := 3) dX3_copies_12 rfl rfl ?_
        refine r_iload dX3_copies_13 rfl ?_
        refine r_iadd dX3_copies_15 ?_
        refine r_aload_n (i := 0) dX3_copies_16 rfl rfl ?_
        refine r_iload_n (i := 1) dX3_copies_17 rfl rfl ?_
        refine r_iload dX3_copies_18 rfl ?_
        refine r_iadd dX3_copies_20 ?_
        refine r_iald dX3_copies_21 (by first | assumption | (simp only [kd_sI, kd_sR, kd_sA, kd_sQ, kd_sL, kd_sD, ln_sI, ln_sR, ln_sA, ln_sQ, ln_sL, ln_sD, gI_sR, gI_sA, gI_sQ, gI_sL, gI_sD, gR_sI, gR_sA, gR_sQ, gR_sL, gR_sD, gA_sI, gA_sR, gA_sQ, gA_sL, gA_sD, gQ_sI, gQ_sR, gQ_sA, gQ_sL, gQ_sD, gL_sI, gL_sR, gL_sA, gL_sQ, gL_sD]; assumption) | simp [kd_sI, kd_sR, kd_sA, kd_sQ, kd_sL, kd_sD, ln_sI, ln_sR, ln_sA, ln_sQ, ln_sL, ln_sD, gI_sR, gI_sA, gI_sQ, gI_sL, gI_sD, gR_sI, gR_sA, gR_sQ, gR_sL, gR_sD, gA_sI, gA_sR, gA_sQ, gA_sL, gA_sD, gQ_sI, gQ_sR, gQ_sA, gQ_sL, gQ_sD, gL_sI, gL_sR, gL_sA, gL_sQ, gL_sD, kd_nO, kd_nA, *]) (by first | decide | assumption) (by first | assumption | exact gI_sIs | exact gR_sRs | with_reducible rfl | (simp only [kd_sI, kd_sR, kd_sA, kd_sQ, kd_sL, kd_sD, ln_sI, ln_sR, ln_sA, ln_sQ, ln_sL, ln_sD, gI_sR, gI_sA, gI_sQ, gI_sL, gI_sD, gR_sI, gR_sA, gR_sQ, gR_sL, gR_sD, gA_sI, gA_sR, gA_sQ, gA_sL, gA_sD, gQ_sI, gQ_sR, gQ_sA, gQ_sL, gQ_sD, gL_sI, gL_sR, gL_sA, gL_sQ, gL_sD]; first | done | assumption | with_reducible rfl) | rfl) (by first | with_reducible rfl | assumption | (simp only [nI_add, pk_mul, nI_1]; with_reducible rfl)) (by first | assumption | omega) (by first | assumption | omega) (by first | assumption | exact gI_sIs | exact gR_sRs | with_reducible rfl | (simp only [kd_sI, kd_sR, kd_sA, kd_sQ, kd_sL, kd_sD, ln_sI, ln_sR, ln_sA, ln_sQ, ln_sL, ln_sD, gI_sR, gI_sA, gI_sQ, gI_sL, gI_sD, gR_sI, gR_sA, gR_sQ, gR_sL, gR_sD, gA_sI, gA_sR, gA_sQ, gA_sL, gA_sD, gQ_sI, gQ_sR, gQ_sA, gQ_sL, gQ_sD, gL_sI, gL_sR, gL_sA, gL_sQ, gL_sD]; first | done | assumption | with_reducible rfl) | rfl) ?_
        refine r_iast dX3_copies_22 (by first | assumption | (simp only [kd_sI, kd_sR, kd_sA, kd_sQ, kd_sL, kd_sD, ln_sI, ln_sR, ln_sA, ln_sQ, ln_sL, ln_sD, gI_sR, gI_sA, gI_sQ, gI_sL, gI_sD, gR_sI, gR_sA, gR_sQ, gR_sL, gR_sD, gA_sI, gA_sR, gA_sQ, gA_sL, gA_sD, gQ_sI, gQ_sR, gQ_sA, gQ_sL, gQ_sD, gL_sI, gL_sR, gL_sA, gL_sQ, gL_sD]; assumption) | simp [kd_sI, kd_sR, kd_sA, kd_sQ, kd_sL, kd_sD, ln_sI, ln_sR, ln_sA, ln_sQ, ln_sL, ln_sD, gI_sR, gI_sA, gI_sQ, gI_sL, gI_sD, gR_sI, gR_sA, gR_sQ, gR_sL, gR_sD, gA_sI, gA_sR, gA_sQ, gA_sL, gA_sD, gQ_sI, gQ_sR, gQ_sA, gQ_sL, gQ_sD, gL_sI, gL_sR, gL_sA, gL_sQ, gL_sD, kd_nO, kd_nA, *]) (by first | decide | assumption) (by first | assumption | exact gI_sIs | exact gR_sRs | with_reducible rfl | (simp only [kd_sI, kd_sR, kd_sA, kd_sQ, kd_sL, kd_sD, ln_sI, ln_sR, ln_sA, ln_sQ, ln_sL, ln_sD, gI_sR, gI_sA, gI_sQ, gI_sL, gI_sD, gR_sI, gR_sA, gR_sQ, gR_sL, gR_sD, gA_sI, gA_sR, gA_sQ, gA_sL, gA_sD, gQ_sI, gQ_sR, gQ_sA, gQ_sL, gQ_sD, gL_sI, gL_sR, gL_sA, gL_sQ, gL_sD]; first | done | assumption | with_reducible rfl) | rfl) (by first | with_reducible rfl | assumption | (simp only [nI_add, pk_mul, nI_1]; with_reducible rfl)) (by first | assumption | omega) (by first | assumption | omega) ?_
        refine r_iinc dX3_copies_23 rfl (by first | exact nI_1 _ | rfl) (by simp only [lset]; rfl) ?_
        refine r_goto (tgt := 3) dX3_copies_26 (by decide) ?_
        refine ih (i + 1) _ (by omega) ?_
        rw [c6, cpF_s, hH, sA_sA]
  exact loop 385 0 H (by omega) (by rw [cpF_0, sA_self])
theorem s_refuses {c n : Int32} (hd : 1 ≤ d) (hM : MO H m ma) (hQ : ∀ H', MU m ma [75, 76, 77] H H' → ChR H' m ma [c, n] → gI H' 77 m = nI 1 → Qr (some (vI (nI 0))) H') : AMet G d 0 0 yX3_refuses wX3_refuses H [vR (some m), vI c, vI n] Qr Qx := by
  have e0 := hM.1
  obtain ⟨e75a, e75b, e75c⟩ : gR H 75 m = some (ma 75) ∧ kd H (ma 75) = 1075 ∧ ln H (ma 75) = 16 := hM.2 75 (by decide)
  refine AMet.of (M := mX3_refuses) (maxL := 3) rfl rfl (Nat.le_of_ble_eq_true rfl) ?_
  show AW mX3_refuses _ _ _ _ _ _ _ 0 [some (vR (some m)), some (vI c), some (vI n)] []
  refine r_aload_n (i := 0) dX3_refuses_0 rfl rfl ?_
  refine r_getR dX3_refuses_1 fR_X3_22 (by first | assumption | (simp only [kd_sI, kd_sR, kd_sA, kd_sQ, kd_sL, kd_sD, ln_sI, ln_sR, ln_sA, ln_sQ, ln_sL, ln_sD, gI_sR, gI_sA, gI_sQ, gI_sL, gI_sD, gR_sI, gR_sA, gR_sQ, gR_sL, gR_sD, gA_sI, gA_sR, gA_sQ, gA_sL, gA_sD, gQ_sI, gQ_sR, gQ_sA, gQ_sL, gQ_sD, gL_sI, gL_sR, gL_sA, gL_sQ, gL_sD]; assumption) | simp [kd_sI, kd_sR, kd_sA, kd_sQ, kd_sL, kd_sD, ln_sI, ln_sR, ln_sA, ln_sQ, ln_sL, ln_sD, gI_sR, gI_sA, gI_sQ, gI_sL, gI_sD, gR_sI, gR_sA, gR_sQ, gR_sL, gR_sD, gA_sI, gA_sR, gA_sQ, gA_sL, gA_sD, gQ_sI, gQ_sR, gQ_sA, gQ_sL, gQ_sD, gL_sI, gL_sR, gL_sA, gL_sQ, gL_sD, kd_nO, kd_nA, *]) (by first | assumption | exact gI_sIs | exact gR_sRs | with_reducible rfl | (simp only [kd_sI, kd_sR, kd_sA, kd_sQ, kd_sL, kd_sD, ln_sI, ln_sR, ln_sA, ln_sQ, ln_sL, ln_sD, gI_sR, gI_sA, gI_sQ, gI_sL, gI_sD, gR_sI, gR_sA, gR_sQ, gR_sL, gR_sD, gA_sI, gA_sR, gA_sQ, gA_sL, gA_sD, gQ_sI, gQ_sR, gQ_sA, gQ_sL, gQ_sD, gL_sI, gL_sR, gL_sA, gL_sQ, gL_sD]; first | done | assumption | with_reducible rfl) | rfl) ?_
  refine r_iconst (v := nI 0) dX3_refuses_4 (by decide) ?_
  refine r_iload_n (i := 1) dX3_refuses_5 rfl rfl ?_
  refine r_iast dX3_refuses_6 (by first | assumption | (simp only [kd_sI, kd_sR, kd_sA, kd_sQ, kd_sL, kd_sD, ln_sI, ln_sR, ln_sA, ln_sQ, ln_sL, ln_sD, gI_sR, gI_sA, gI_sQ, gI_sL, gI_sD, gR_sI, gR_sA, gR_sQ, gR_sL, gR_sD, gA_sI, gA_sR, gA_sQ, gA_sL, gA_sD, gQ_sI, gQ_sR, gQ_sA, gQ_sL, gQ_sD, gL_sI, gL_sR, gL_sA, gL_sQ, gL_sD]; assumption) | simp [kd_sI, kd_sR, kd_sA, kd_sQ, kd_sL, kd_sD, ln_sI, ln_sR, ln_sA, ln_sQ, ln_sL, ln_sD, gI_sR, gI_sA, gI_sQ, gI_sL, gI_sD, gR_sI, gR_sA, gR_sQ, gR_sL, gR_sD, gA_sI, gA_sR, gA_sQ, gA_sL, gA_sD, gQ_sI, gQ_sR, gQ_sA, gQ_sL, gQ_sD, gL_sI, gL_sR, gL_sA, gL_sQ, gL_sD, kd_nO, kd_nA, *]) (by first | decide | assumption) (by first | assumption | exact gI_sIs | exact gR_sRs | with_reducible rfl | (simp only [kd_sI, kd_sR, kd_sA, kd_sQ, kd_sL, kd_sD, ln_sI, ln_sR, ln_sA, ln_sQ, ln_sL, ln_sD, gI_sR, gI_sA, gI_sQ, gI_sL, gI_sD, gR_sI, gR_sA, gR_sQ, gR_sL, gR_sD, gA_sI, gA_sR, gA_sQ, gA_sL, gA_sD, gQ_sI, gQ_sR, gQ_sA, gQ_sL, gQ_sD, gL_sI, gL_sR, gL_sA, gL_sQ, gL_sD]; first | done | assumption | with_reducible rfl) | rfl) (by first | with_reducible rfl | assumption | (simp only [nI_add, pk_mul, nI_1]; with_reducible rfl)) (by first | assumption | omega) (by first | assumption | omega) ?_
  refine r_aload_n (i := 0) dX3_refuses_7 rfl rfl ?_
  refine r_getR dX3_refuses_8 fR_X3_22 (by first | assumption | (simp only [kd_sI, kd_sR, kd_sA, kd_sQ, kd_sL, kd_sD, ln_sI, ln_sR, ln_sA, ln_sQ, ln_sL, ln_sD, gI_sR, gI_sA, gI_sQ, gI_sL, gI_sD, gR_sI, gR_sA, gR_sQ, gR_sL, gR_sD, gA_sI, gA_sR, gA_sQ, gA_sL, gA_sD, gQ_sI, gQ_sR, gQ_sA, gQ_sL, gQ_sD, gL_sI, gL_sR, gL_sA, gL_sQ, gL_sD]; assumption) | simp [kd_sI, kd_sR, kd_sA, kd_sQ, kd_sL, kd_sD, ln_sI, ln_sR, ln_sA, ln_sQ, ln_sL, ln_sD, gI_sR, gI_sA, gI_sQ, gI_sL, gI_sD, gR_sI, gR_sA, gR_sQ, gR_sL, gR_sD, gA_sI, gA_sR, gA_sQ, gA_sL, gA_sD, gQ_sI, gQ_sR, gQ_sA, gQ_sL, gQ_sD, gL_sI, gL_sR, gL_sA, gL_sQ, gL_sD, kd_nO, kd_nA, *]) (by first | assumption | exact gI_sIs | exact gR_sRs | with_reducible rfl | (simp only [kd_sI, kd_sR, kd_sA, kd_sQ, kd_sL, kd_sD, ln_sI, ln_sR, ln_sA, ln_sQ, ln_sL, ln_sD, gI_sR, gI_sA, gI_sQ, gI_sL, gI_sD, gR_sI, gR_sA, gR_sQ, gR_sL, gR_sD, gA_sI, gA_sR, gA_sQ, gA_sL, gA_sD, gQ_sI, gQ_sR, gQ_sA, gQ_sL, gQ_sD, gL_sI, gL_sR, gL_sA, gL_sQ, gL_sD]; first | done | assumption | with_reducible rfl) | rfl) ?_
  refine r_iconst (v := nI 1) dX3_refuses_11 (by decide) ?_
  refine r_iload_n (i := 2) dX3_refuses_12 rfl rfl ?_
  refine r_iast dX3_refuses_13 (by first | assumption | (simp only [kd_sI, kd_sR, kd_sA, kd_sQ, kd_sL, kd_sD, ln_sI, ln_sR, ln_sA, ln_sQ, ln_sL, ln_sD, gI_sR, gI_sA, gI_sQ, gI_sL, gI_sD, gR_sI, gR_sA, gR_sQ, gR_sL, gR_sD, gA_sI, gA_sR, gA_sQ, gA_sL, gA_sD, gQ_sI, gQ_sR, gQ_sA, gQ_sL, gQ_sD, gL_sI, gL_sR, gL_sA, gL_sQ, gL_sD]; assumption) | simp [kd_sI, kd_sR, kd_sA, kd_sQ, kd_sL, kd_sD, ln_sI, ln_sR, ln_sA, ln_sQ, ln_sL, ln_sD, gI_sR, gI_sA, gI_sQ, gI_sL, gI_sD, gR_sI, gR_sA, gR_sQ, gR_sL, gR_sD, gA_sI, gA_sR, gA_sQ, gA_sL, gA_sD, gQ_sI, gQ_sR, gQ_sA, gQ_sL, gQ_sD, gL_sI, gL_sR, gL_sA, gL_sQ, gL_sD, kd_nO, kd_nA, *]) (by first | decide | assumption) (by first | assumption | exact gI_sIs | exact gR_sRs | with_reducible rfl | (simp only [kd_sI, kd_sR, kd_sA, kd_sQ, kd_sL, kd_sD, ln_sI, ln_sR, ln_sA, ln_sQ, ln_sL, ln_sD, gI_sR, gI_sA, gI_sQ, gI_sL, gI_sD, gR_sI, gR_sA, gR_sQ, gR_sL, gR_sD, gA_sI, gA_sR, gA_sQ, gA_sL, gA_sD, gQ_sI, gQ_sR, gQ_sA, gQ_sL, gQ_sD, gL_sI, gL_sR, gL_sA, gL_sQ, gL_sD]; first | done | assumption | with_reducible rfl) | rfl) (by first | with_reducible rfl | assumption | (simp only [nI_add, pk_mul, nI_1]; with_reducible rfl)) (by first | assumption | omega) (by first | assumption | omega) ?_
  refine r_aload_n (i := 0) dX3_refuses_14 rfl rfl ?_
  refine r_iconst (v := nI 2) dX3_refuses_15 (by decide) ?_
  refine r_putI dX3_refuses_16 fG_X3_172 (fun _ => by first | rfl | contradiction) (by first | assumption | (simp only [kd_sI, kd_sR, kd_sA, kd_sQ, kd_sL, kd_sD, ln_sI, ln_sR, ln_sA, ln_sQ, ln_sL, ln_sD, gI_sR, gI_sA, gI_sQ, gI_sL, gI_sD, gR_sI, gR_sA, gR_sQ, gR_sL, gR_sD, gA_sI, gA_sR, gA_sQ, gA_sL, gA_sD, gQ_sI, gQ_sR, gQ_sA, gQ_sL, gQ_sD, gL_sI, gL_sR, gL_sA, gL_sQ, gL_sD]; assumption) | simp [kd_sI, kd_sR, kd_sA, kd_sQ, kd_sL, kd_sD, ln_sI, ln_sR, ln_sA, ln_sQ, ln_sL, ln_sD, gI_sR, gI_sA, gI_sQ, gI_sL, gI_sD, gR_sI, gR_sA, gR_sQ, gR_sL, gR_sD, gA_sI, gA_sR, gA_sQ, gA_sL, gA_sD, gQ_sI, gQ_sR, gQ_sA, gQ_sL, gQ_sD, gL_sI, gL_sR, gL_sA, gL_sQ, gL_sD, kd_nO, kd_nA, *]) (by first | rfl | assumption) (by first | rfl | assumption) ?_
  refine AW.name (fun H1 hH1 => ?_)
  have hU1 : MU m ma [75, 76, 77] H H1 := by
    rw [hH1]
    exact ((MU.rf.sA (f := 75) (Or.inl (by decide)) (by decide) (by decide)).sA (f := 75) (Or.inl (by decide)) (by decide) (by decide)).sI (f := 76) (by decide) (by decide) (by decide)
  have hM1 := hM.mf hU1.1
  have e01 := hM1.1
  refine r_aload_n (i := 0) dX3_refuses_19 rfl rfl ?_
  refine r_iconst (v := nI 1) dX3_refuses_20 (by decide) ?_
  refine r_callV (As := [_]) (mc' := 0) (ms' := 0) dX3_refuses_21 k_X3_175 rfl (by first | assumption | (simp only [kd_sI, kd_sR, kd_sA, kd_sQ, kd_sL, kd_sD, ln_sI, ln_sR, ln_sA, ln_sQ, ln_sL, ln_sD, gI_sR, gI_sA, gI_sQ, gI_sL, gI_sD, gR_sI, gR_sA, gR_sQ, gR_sL, gR_sD, gA_sI, gA_sR, gA_sQ, gA_sL, gA_sD, gQ_sI, gQ_sR, gQ_sA, gQ_sL, gQ_sD, gL_sI, gL_sR, gL_sA, gL_sQ, gL_sD]; assumption) | simp [kd_sI, kd_sR, kd_sA, kd_sQ, kd_sL, kd_sD, ln_sI, ln_sR, ln_sA, ln_sQ, ln_sL, ln_sD, gI_sR, gI_sA, gI_sQ, gI_sL, gI_sD, gR_sI, gR_sA, gR_sQ, gR_sL, gR_sD, gA_sI, gA_sR, gA_sQ, gA_sL, gA_sD, gQ_sI, gQ_sR, gQ_sA, gQ_sL, gQ_sD, gL_sI, gL_sR, gL_sA, gL_sQ, gL_sD, kd_nO, kd_nA, *]) (T := TX3) (N := 27) rfl (by first | assumption | omega) (by first | assumption | omega) (by first | assumption | omega) (Nat.le_of_ble_eq_true rfl) ?_
  refine s_fails hM1 ?_
  refine r_ireturn dX3_refuses_24 rfl (by first | rfl | assumption | exact vp_nar_int _ | exact pk_nc _) ?_
  have hU2 : MU m ma [75, 76, 77] H (sI H1 77 m (nI 1)) := hU1.sI (by decide) (by decide) (by decide)
  refine hQ _ hU2 ?_ gI_sIs
  refine ChR.mu (fs := [77]) ?_ (MU.rf.sI (by decide) (by decide) (by decide)) (by decide) (by decide)
  refine ⟨by rw [hH1]; exact gI_sIs, by simp, ?_⟩
  intro k hk
  rw [hH1]
  show gA (sA (sA H 1075 (ma 75) _) 1075 (ma 75) _) 1075 (ma 75) k = _
  rw [gA_sAs, gA_sAs]
  rcases (show k = 0 ∨ k = 1 by simp at hk; omega) with rfl | rfl
  · rfl
  · rfl
theorem s_refusal {L : List Int32} {k : Int32} (hd : 1 ≤ d) (hM : MO H m ma) (hC : ChR H m ma L) (hQ : Qr (some (vI (p_refusal L k).2)) (sI H 77 m (nI (p_refusal L k).1))) : AMet G d 0 0 yX3_refusal wX3_refusal H [vR (some m), vI k] Qr Qx := by
  have e0 := hM.1
  obtain ⟨e75a, e75b, e75c⟩ : gR H 75 m = some (ma 75) ∧ kd H (ma 75) = 1075 ∧ ln H (ma 75) = 16 := hM.2 75 (by decide)
  obtain ⟨c1, c2, c3⟩ := hC
  unfold p_refusal at hQ
  refine AMet.of (M := mX3_refusal) (maxL := 2) rfl rfl (Nat.le_of_ble_eq_true rfl) ?_
  show AW mX3_refusal _ _ _ _ _ _ _ 0 [some (vR (some m)), some (vI k)] []
  refine r_aload_n (i := 0) dX3_refusal_0 rfl rfl ?_
  refine r_aload_n (i := 0) dX3_refusal_1 rfl rfl ?_
  refine r_getI dX3_refusal_2 fR_X3_172 (by first | assumption | (simp only [kd_sI, kd_sR, kd_sA, kd_sQ, kd_sL, kd_sD, ln_sI, ln_sR, ln_sA, ln_sQ, ln_sL, ln_sD, gI_sR, gI_sA, gI_sQ, gI_sL, gI_sD, gR_sI, gR_sA, gR_sQ, gR_sL, gR_sD, gA_sI, gA_sR, gA_sQ, gA_sL, gA_sD, gQ_sI, gQ_sR, gQ_sA, gQ_sL, gQ_sD, gL_sI, gL_sR, gL_sA, gL_sQ, gL_sD]; assumption) | simp [kd_sI, kd_sR, kd_sA, kd_sQ, kd_sL, kd_sD, ln_sI, ln_sR, ln_sA, ln_sQ, ln_sL, ln_sD, gI_sR, gI_sA, gI_sQ, gI_sL, gI_sD, gR_sI, gR_sA, gR_sQ, gR_sL, gR_sD, gA_sI, gA_sR, gA_sQ, gA_sL, gA_sD, gQ_sI, gQ_sR, gQ_sA, gQ_sL, gQ_sD, gL_sI, gL_sR, gL_sA, gL_sQ, gL_sD, kd_nO, kd_nA, *]) (by first | assumption | exact gI_sIs | exact gR_sRs | with_reducible rfl | (simp only [kd_sI, kd_sR, kd_sA, kd_sQ, kd_sL, kd_sD, ln_sI, ln_sR, ln_sA, ln_sQ, ln_sL, ln_sD, gI_sR, gI_sA, gI_sQ, gI_sL, gI_sD, gR_sI, gR_sA, gR_sQ, gR_sL, gR_sD, gA_sI, gA_sR, gA_sQ, gA_sL, gA_sD, gQ_sI, gQ_sR, gQ_sA, gQ_sL, gQ_sD, gL_sI, gL_sR, gL_sA, gL_sQ, gL_sD]; first | done | assumption | with_reducible rfl) | rfl) ?_
  refine r_if_ne (tgt := 12) dX3_refusal_5 (by decide) (fun h5 => ?_) (fun h5 => ?_)
  · have hL : L ≠ [] := fun e => h5 (by rw [e]; decide)
    rw [if_neg hL] at hQ
    refine r_iload_n (i := 1) dX3_refusal_12 rfl rfl ?_
    refine r_iconst (v := nI 0) dX3_refusal_13 (by decide) ?_
    refine r_aload_n (i := 0) dX3_refusal_14 rfl rfl ?_
    refine r_getI dX3_refusal_15 fR_X3_172 (by first | assumption | (simp only [kd_sI, kd_sR, kd_sA, kd_sQ, kd_sL, kd_sD, ln_sI, ln_sR, ln_sA, ln_sQ, ln_sL, ln_sD, gI_sR, gI_sA, gI_sQ, gI_sL, gI_sD, gR_sI, gR_sA, gR_sQ, gR_sL, gR_sD, gA_sI, gA_sR, gA_sQ, gA_sL, gA_sD, gQ_sI, gQ_sR, gQ_sA, gQ_sL, gQ_sD, gL_sI, gL_sR, gL_sA, gL_sQ, gL_sD]; assumption) | simp [kd_sI, kd_sR, kd_sA, kd_sQ, kd_sL, kd_sD, ln_sI, ln_sR, ln_sA, ln_sQ, ln_sL, ln_sD, gI_sR, gI_sA, gI_sQ, gI_sL, gI_sD, gR_sI, gR_sA, gR_sQ, gR_sL, gR_sD, gA_sI, gA_sR, gA_sQ, gA_sL, gA_sD, gQ_sI, gQ_sR, gQ_sA, gQ_sL, gQ_sD, gL_sI, gL_sR, gL_sA, gL_sQ, gL_sD, kd_nO, kd_nA, *]) (by first | assumption | exact gI_sIs | exact gR_sRs | with_reducible rfl | (simp only [kd_sI, kd_sR, kd_sA, kd_sQ, kd_sL, kd_sD, ln_sI, ln_sR, ln_sA, ln_sQ, ln_sL, ln_sD, gI_sR, gI_sA, gI_sQ, gI_sL, gI_sD, gR_sI, gR_sA, gR_sQ, gR_sL, gR_sD, gA_sI, gA_sR, gA_sQ, gA_sL, gA_sD, gQ_sI, gQ_sR, gQ_sA, gQ_sL, gQ_sD, gL_sI, gL_sR, gL_sA, gL_sQ, gL_sD]; first | done | assumption | with_reducible rfl) | rfl) ?_
    refine r_iconst (v := nI 1) dX3_refusal_18 (by decide) ?_
    refine r_isub dX3_refusal_19 ?_
    refine r_callS (As := [_, _, _]) (mc' := 0) (ms' := 0) dX3_refusal_20 k_X3_90 rfl (by first | assumption | omega) (by first | assumption | omega) (by first | assumption | omega) (Nat.le_of_ble_eq_true rfl) ?_
    refine s_in ?_
    refine r_if_eq (tgt := 30) dX3_refusal_23 (by decide) (fun h23 => ?_) (fun h23 => ?_)
    · rw [if_neg (by unfold inB; rw [bI_eq0.mp h23]; decide)] at hQ
      refine r_iconst (v := nI 2) dX3_refusal_30 (by decide) ?_
      refine r_putI dX3_refusal_31 fG_X3_66 (fun _ => by first | rfl | contradiction) (by first | assumption | (simp only [kd_sI, kd_sR, kd_sA, kd_sQ, kd_sL, kd_sD, ln_sI, ln_sR, ln_sA, ln_sQ, ln_sL, ln_sD, gI_sR, gI_sA, gI_sQ, gI_sL, gI_sD, gR_sI, gR_sA, gR_sQ, gR_sL, gR_sD, gA_sI, gA_sR, gA_sQ, gA_sL, gA_sD, gQ_sI, gQ_sR, gQ_sA, gQ_sL, gQ_sD, gL_sI, gL_sR, gL_sA, gL_sQ, gL_sD]; assumption) | simp [kd_sI, kd_sR, kd_sA, kd_sQ, kd_sL, kd_sD, ln_sI, ln_sR, ln_sA, ln_sQ, ln_sL, ln_sD, gI_sR, gI_sA, gI_sQ, gI_sL, gI_sD, gR_sI, gR_sA, gR_sQ, gR_sL, gR_sD, gA_sI, gA_sR, gA_sQ, gA_sL, gA_sD, gQ_sI, gQ_sR, gQ_sA, gQ_sL, gQ_sD, gL_sI, gL_sR, gL_sA, gL_sQ, gL_sD, kd_nO, kd_nA, *]) (by first | rfl | assumption) (by first | rfl | assumption) ?_
      refine r_aload_n (i := 0) dX3_refusal_34 rfl rfl ?_
      refine r_getI dX3_refusal_35 fR_X3_66 (by first | assumption | (simp only [kd_sI, kd_sR, kd_sA, kd_sQ, kd_sL, kd_sD, ln_sI, ln_sR, ln_sA, ln_sQ, ln_sL, ln_sD, gI_sR, gI_sA, gI_sQ, gI_sL, gI_sD, gR_sI, gR_sA, gR_sQ, gR_sL, gR_sD, gA_sI, gA_sR, gA_sQ, gA_sL, gA_sD, gQ_sI, gQ_sR, gQ_sA, gQ_sL, gQ_sD, gL_sI, gL_sR, gL_sA, gL_sQ, gL_sD]; assumption) | simp [kd_sI, kd_sR, kd_sA, kd_sQ, kd_sL, kd_sD, ln_sI, ln_sR, ln_sA, ln_sQ, ln_sL, ln_sD, gI_sR, gI_sA, gI_sQ, gI_sL, gI_sD, gR_sI, gR_sA, gR_sQ, gR_sL, gR_sD, gA_sI, gA_sR, gA_sQ, gA_sL, gA_sD, gQ_sI, gQ_sR, gQ_sA, gQ_sL, gQ_sD, gL_sI, gL_sR, gL_sA, gL_sQ, gL_sD, kd_nO, kd_nA, *]) (by first | assumption | exact gI_sIs | exact gR_sRs | with_reducible rfl | (simp only [kd_sI, kd_sR, kd_sA, kd_sQ, kd_sL, kd_sD, ln_sI, ln_sR, ln_sA, ln_sQ, ln_sL, ln_sD, gI_sR, gI_sA, gI_sQ, gI_sL, gI_sD, gR_sI, gR_sA, gR_sQ, gR_sL, gR_sD, gA_sI, gA_sR, gA_sQ, gA_sL, gA_sD, gQ_sI, gQ_sR, gQ_sA, gQ_sL, gQ_sD, gL_sI, gL_sR, gL_sA, gL_sQ, gL_sD]; first | done | assumption | with_reducible rfl) | rfl) ?_
      refine r_if_le (tgt := 45) dX3_refusal_38 (by decide) (fun h38 => ?_) (fun h38 => ?_)
      · exact absurd h38 (by decide)
      · refine r_iconst (v := nI 0) dX3_refusal_41 (by decide) ?_
        refine r_goto (tgt := 51) dX3_refusal_42 (by decide) ?_
        refine r_ireturn dX3_refusal_51 rfl (by first | rfl | assumption | exact vp_nar_int _ | exact pk_nc _) ?_
        exact hQ
    · have hk : inB k (nI 0) (nI L.length - nI 1) = true := bI_ne0 h23
      rw [if_pos hk] at hQ
      obtain ⟨j, hj, rfl, ej⟩ := inB_t (g := fun _ => nI L.length) (i := 0) (b := 65535) hk (isN_of (n := L.length) rfl (by omega) (by omega)).1 (by omega)
      have hj2 : j < L.length := by rw [(isN_of (g := fun _ => nI L.length) (i := 0) (b := 65535) (n := L.length) rfl (by omega) (by omega)).2] at hj; exact hj
      rw [ej] at hQ
      have c3j := c3 j hj2
      refine r_iconst (v := nI 0) dX3_refusal_26 (by decide) ?_
      refine r_goto (tgt := 31) dX3_refusal_27 (by decide) ?_
      refine r_putI dX3_refusal_31 fG_X3_66 (fun _ => by first | rfl | contradiction) (by first | assumption | (simp only [kd_sI, kd_sR, kd_sA, kd_sQ, kd_sL, kd_sD, ln_sI, ln_sR, ln_sA, ln_sQ, ln_sL, ln_sD, gI_sR, gI_sA, gI_sQ, gI_sL, gI_sD, gR_sI, gR_sA, gR_sQ, gR_sL, gR_sD, gA_sI, gA_sR, gA_sQ, gA_sL, gA_sD, gQ_sI, gQ_sR, gQ_sA, gQ_sL, gQ_sD, gL_sI, gL_sR, gL_sA, gL_sQ, gL_sD]; assumption) | simp [kd_sI, kd_sR, kd_sA, kd_sQ, kd_sL, kd_sD, ln_sI, ln_sR, ln_sA, ln_sQ, ln_sL, ln_sD, gI_sR, gI_sA, gI_sQ, gI_sL, gI_sD, gR_sI, gR_sA, gR_sQ, gR_sL, gR_sD, gA_sI, gA_sR, gA_sQ, gA_sL, gA_sD, gQ_sI, gQ_sR, gQ_sA, gQ_sL, gQ_sD, gL_sI, gL_sR, gL_sA, gL_sQ, gL_sD, kd_nO, kd_nA, *]) (by first | rfl | assumption) (by first | rfl | assumption) ?_
      refine r_aload_n (i := 0) dX3_refusal_34 rfl rfl ?_
      refine r_getI dX3_refusal_35 fR_X3_66 (by first | assumption | (simp only [kd_sI, kd_sR, kd_sA, kd_sQ, kd_sL, kd_sD, ln_sI, ln_sR, ln_sA, ln_sQ, ln_sL, ln_sD, gI_sR, gI_sA, gI_sQ, gI_sL, gI_sD, gR_sI, gR_sA, gR_sQ, gR_sL, gR_sD, gA_sI, gA_sR, gA_sQ, gA_sL, gA_sD, gQ_sI, gQ_sR, gQ_sA, gQ_sL, gQ_sD, gL_sI, gL_sR, gL_sA, gL_sQ, gL_sD]; assumption) | simp [kd_sI, kd_sR, kd_sA, kd_sQ, kd_sL, kd_sD, ln_sI, ln_sR, ln_sA, ln_sQ, ln_sL, ln_sD, gI_sR, gI_sA, gI_sQ, gI_sL, gI_sD, gR_sI, gR_sA, gR_sQ, gR_sL, gR_sD, gA_sI, gA_sR, gA_sQ, gA_sL, gA_sD, gQ_sI, gQ_sR, gQ_sA, gQ_sL, gQ_sD, gL_sI, gL_sR, gL_sA, gL_sQ, gL_sD, kd_nO, kd_nA, *]) (by first | assumption | exact gI_sIs | exact gR_sRs | with_reducible rfl | (simp only [kd_sI, kd_sR, kd_sA, kd_sQ, kd_sL, kd_sD, ln_sI, ln_sR, ln_sA, ln_sQ, ln_sL, ln_sD, gI_sR, gI_sA, gI_sQ, gI_sL, gI_sD, gR_sI, gR_sA, gR_sQ, gR_sL, gR_sD, gA_sI, gA_sR, gA_sQ, gA_sL, gA_sD, gQ_sI, gQ_sR, gQ_sA, gQ_sL, gQ_sD, gL_sI, gL_sR, gL_sA, gL_sQ, gL_sD]; first | done | assumption | with_reducible rfl) | rfl) ?_
      refine r_if_le (tgt := 45) dX3_refusal_38 (by decide) (fun h38 => ?_) (fun h38 => ?_)
      · refine r_aload_n (i := 0) dX3_refusal_45 rfl rfl ?_
        refine r_getR dX3_refusal_46 fR_X3_22 (by first | assumption | (simp only [kd_sI, kd_sR, kd_sA, kd_sQ, kd_sL, kd_sD, ln_sI, ln_sR, ln_sA, ln_sQ, ln_sL, ln_sD, gI_sR, gI_sA, gI_sQ, gI_sL, gI_sD, gR_sI, gR_sA, gR_sQ, gR_sL, gR_sD, gA_sI, gA_sR, gA_sQ, gA_sL, gA_sD, gQ_sI, gQ_sR, gQ_sA, gQ_sL, gQ_sD, gL_sI, gL_sR, gL_sA, gL_sQ, gL_sD]; assumption) | simp [kd_sI, kd_sR, kd_sA, kd_sQ, kd_sL, kd_sD, ln_sI, ln_sR, ln_sA, ln_sQ, ln_sL, ln_sD, gI_sR, gI_sA, gI_sQ, gI_sL, gI_sD, gR_sI, gR_sA, gR_sQ, gR_sL, gR_sD, gA_sI, gA_sR, gA_sQ, gA_sL, gA_sD, gQ_sI, gQ_sR, gQ_sA, gQ_sL, gQ_sD, gL_sI, gL_sR, gL_sA, gL_sQ, gL_sD, kd_nO, kd_nA, *]) (by first | assumption | exact gI_sIs | exact gR_sRs | with_reducible rfl | (simp only [kd_sI, kd_sR, kd_sA, kd_sQ, kd_sL, kd_sD, ln_sI, ln_sR, ln_sA, ln_sQ, ln_sL, ln_sD, gI_sR, gI_sA, gI_sQ, gI_sL, gI_sD, gR_sI, gR_sA, gR_sQ, gR_sL, gR_sD, gA_sI, gA_sR, gA_sQ, gA_sL, gA_sD, gQ_sI, gQ_sR, gQ_sA, gQ_sL, gQ_sD, gL_sI, gL_sR, gL_sA, gL_sQ, gL_sD]; first | done | assumption | with_reducible rfl) | rfl) ?_
        refine r_iload_n (i := 1) dX3_refusal_49 rfl rfl ?_
        refine r_iald dX3_refusal_50 (by first | assumption | (simp only [kd_sI, kd_sR, kd_sA, kd_sQ, kd_sL, kd_sD, ln_sI, ln_sR, ln_sA, ln_sQ, ln_sL, ln_sD, gI_sR, gI_sA, gI_sQ, gI_sL, gI_sD, gR_sI, gR_sA, gR_sQ, gR_sL, gR_sD, gA_sI, gA_sR, gA_sQ, gA_sL, gA_sD, gQ_sI, gQ_sR, gQ_sA, gQ_sL, gQ_sD, gL_sI, gL_sR, gL_sA, gL_sQ, gL_sD]; assumption) | simp [kd_sI, kd_sR, kd_sA, kd_sQ, kd_sL, kd_sD, ln_sI, ln_sR, ln_sA, ln_sQ, ln_sL, ln_sD, gI_sR, gI_sA, gI_sQ, gI_sL, gI_sD, gR_sI, gR_sA, gR_sQ, gR_sL, gR_sD, gA_sI, gA_sR, gA_sQ, gA_sL, gA_sD, gQ_sI, gQ_sR, gQ_sA, gQ_sL, gQ_sD, gL_sI, gL_sR, gL_sA, gL_sQ, gL_sD, kd_nO, kd_nA, *]) (by first | decide | assumption) (by first | assumption | exact gI_sIs | exact gR_sRs | with_reducible rfl | (simp only [kd_sI, kd_sR, kd_sA, kd_sQ, kd_sL, kd_sD, ln_sI, ln_sR, ln_sA, ln_sQ, ln_sL, ln_sD, gI_sR, gI_sA, gI_sQ, gI_sL, gI_sD, gR_sI, gR_sA, gR_sQ, gR_sL, gR_sD, gA_sI, gA_sR, gA_sQ, gA_sL, gA_sD, gQ_sI, gQ_sR, gQ_sA, gQ_sL, gQ_sD, gL_sI, gL_sR, gL_sA, gL_sQ, gL_sD]; first | done | assumption | with_reducible rfl) | rfl) (by first | with_reducible rfl | assumption | (simp only [nI_add, pk_mul, nI_1]; with_reducible rfl)) (by first | assumption | omega) (by first | assumption | omega) (by first | assumption | exact gI_sIs | exact gR_sRs | with_reducible rfl | (simp only [kd_sI, kd_sR, kd_sA, kd_sQ, kd_sL, kd_sD, ln_sI, ln_sR, ln_sA, ln_sQ, ln_sL, ln_sD, gI_sR, gI_sA, gI_sQ, gI_sL, gI_sD, gR_sI, gR_sA, gR_sQ, gR_sL, gR_sD, gA_sI, gA_sR, gA_sQ, gA_sL, gA_sD, gQ_sI, gQ_sR, gQ_sA, gQ_sL, gQ_sD, gL_sI, gL_sR, gL_sA, gL_sQ, gL_sD]; first | done | assumption | with_reducible rfl) | rfl) ?_
        refine r_ireturn dX3_refusal_51 rfl (by first | rfl | assumption | exact vp_nar_int _ | exact pk_nc _) ?_
        exact hQ
      · exact absurd (by decide) h38
  · have hL : L = [] := by
      rcases Nat.eq_zero_or_pos L.length with q | q
      · exact List.length_eq_zero_iff.mp q
      · exact absurd h5 (nI_ne0 q (by omega))
    rw [if_pos hL] at hQ
    refine r_iconst (v := nI 1) dX3_refusal_8 (by decide) ?_
    refine r_goto (tgt := 31) dX3_refusal_9 (by decide) ?_
    refine r_putI dX3_refusal_31 fG_X3_66 (fun _ => by first | rfl | contradiction) (by first | assumption | (simp only [kd_sI, kd_sR, kd_sA, kd_sQ, kd_sL, kd_sD, ln_sI, ln_sR, ln_sA, ln_sQ, ln_sL, ln_sD, gI_sR, gI_sA, gI_sQ, gI_sL, gI_sD, gR_sI, gR_sA, gR_sQ, gR_sL, gR_sD, gA_sI, gA_sR, gA_sQ, gA_sL, gA_sD, gQ_sI, gQ_sR, gQ_sA, gQ_sL, gQ_sD, gL_sI, gL_sR, gL_sA, gL_sQ, gL_sD]; assumption) | simp [kd_sI, kd_sR, kd_sA, kd_sQ, kd_sL, kd_sD, ln_sI, ln_sR, ln_sA, ln_sQ, ln_sL, ln_sD, gI_sR, gI_sA, gI_sQ, gI_sL, gI_sD, gR_sI, gR_sA, gR_sQ, gR_sL, gR_sD, gA_sI, gA_sR, gA_sQ, gA_sL, gA_sD, gQ_sI, gQ_sR, gQ_sA, gQ_sL, gQ_sD, gL_sI, gL_sR, gL_sA, gL_sQ, gL_sD, kd_nO, kd_nA, *]) (by first | rfl | assumption) (by first | rfl | assumption) ?_
    refine r_aload_n (i := 0) dX3_refusal_34 rfl rfl ?_
    refine r_getI dX3_refusal_35 fR_X3_66 (by first | assumption | (simp only [kd_sI, kd_sR, kd_sA, kd_sQ, kd_sL, kd_sD, ln_sI, ln_sR, ln_sA, ln_sQ, ln_sL, ln_sD, gI_sR, gI_sA, gI_sQ, gI_sL, gI_sD, gR_sI, gR_sA, gR_sQ, gR_sL, gR_sD, gA_sI, gA_sR, gA_sQ, gA_sL, gA_sD, gQ_sI, gQ_sR, gQ_sA, gQ_sL, gQ_sD, gL_sI, gL_sR, gL_sA, gL_sQ, gL_sD]; assumption) | simp [kd_sI, kd_sR, kd_sA, kd_sQ, kd_sL, kd_sD, ln_sI, ln_sR, ln_sA, ln_sQ, ln_sL, ln_sD, gI_sR, gI_sA, gI_sQ, gI_sL, gI_sD, gR_sI, gR_sA, gR_sQ, gR_sL, gR_sD, gA_sI, gA_sR, gA_sQ, gA_sL, gA_sD, gQ_sI, gQ_sR, gQ_sA, gQ_sL, gQ_sD, gL_sI, gL_sR, gL_sA, gL_sQ, gL_sD, kd_nO, kd_nA, *]) (by first | assumption | exact gI_sIs | exact gR_sRs | with_reducible rfl | (simp only [kd_sI, kd_sR, kd_sA, kd_sQ, kd_sL, kd_sD, ln_sI, ln_sR, ln_sA, ln_sQ, ln_sL, ln_sD, gI_sR, gI_sA, gI_sQ, gI_sL, gI_sD, gR_sI, gR_sA, gR_sQ, gR_sL, gR_sD, gA_sI, gA_sR, gA_sQ, gA_sL, gA_sD, gQ_sI, gQ_sR, gQ_sA, gQ_sL, gQ_sD, gL_sI, gL_sR, gL_sA, gL_sQ, gL_sD]; first | done | assumption | with_reducible rfl) | rfl) ?_
    refine r_if_le (tgt := 45) dX3_refusal_38 (by decide) (fun h38 => ?_) (fun h38 => ?_)
    · exact absurd h38 (by decide)
    · refine r_iconst (v := nI 0) dX3_refusal_41 (by decide) ?_
      refine r_goto (tgt := 51) dX3_refusal_42 (by decide) ?_
      refine r_ireturn dX3_refusal_51 rfl (by first | rfl | assumption | exact vp_nar_int _ | exact pk_nc _) ?_
      exact hQ
theorem s_begins (hM : MO H m ma) (hz : ZT (gA H 1068 (ma 68))) (hQ : ∀ H', MU m ma [68, 74] H H' → gA H' 1068 (ma 68) = g0 → gI H' 74 m = nI 0 → Qr none H') : AMet G d 0 0 yX3_begins wX3_begins H [vR (some m)] Qr Qx := by
  refine AMet.of (M := mX3_begins) (maxL := 2) rfl rfl (Nat.le_of_ble_eq_true rfl) ?_
  show AW mX3_begins _ _ _ _ _ _ _ 0 [some (vR (some m)), none] []
  refine r_iconst (v := nI 0) dX3_begins_0 (by decide) ?_
  refine r_istore_n (i := 1) dX3_begins_1 rfl (Nat.le_of_ble_eq_true rfl) (by simp only [lset]; rfl) ?_
  have loop : ∀ (k i : Nat) (H1 : AH), i + k = 385 → MU m ma [68, 74] H H1 → (∀ j, j < i → gA H1 1068 (ma 68) j = nI 0) → ZT (gA H1 1068 (ma 68)) → AW mX3_begins G d Qr Qx 0 0 H1 2 [some (vR (some m)), some (vI (nI i))] [] := by
    intro k
    induction k with
    | zero =>
      intro i H1 hi hU hz1 hz2
      have hM1 := hM.mf hU.1
      have e01 := hM1.1
      obtain ⟨e68a_1, e68b_1, e68c_1⟩ : gR H1 68 m = some (ma 68) ∧ kd H1 (ma 68) = 1068 ∧ ln H1 (ma 68) = 385 := hM1.2 68 (by decide)
      rw [show i = 385 by omega] at hz1 ⊢
      refine r_iload_n (i := 1) dX3_begins_2 rfl rfl ?_
      refine r_sipush (v := nI 385) dX3_begins_3 (by decide) ?_
      refine r_icmp_ge (tgt := 22) dX3_begins_6 (by decide) (fun h6 => ?_) (fun h6 => ?_)
      · refine r_aload_n (i := 0) dX3_begins_22 rfl rfl ?_
        refine r_getR dX3_begins_23 fR_X3_7 (by first | assumption | (simp only [kd_sI, kd_sR, kd_sA, kd_sQ, kd_sL, kd_sD, ln_sI, ln_sR, ln_sA, ln_sQ, ln_sL, ln_sD, gI_sR, gI_sA, gI_sQ, gI_sL, gI_sD, gR_sI, gR_sA, gR_sQ, gR_sL, gR_sD, gA_sI, gA_sR, gA_sQ, gA_sL, gA_sD, gQ_sI, gQ_sR, gQ_sA, gQ_sL, gQ_sD, gL_sI, gL_sR, gL_sA, gL_sQ, gL_sD]; assumption) | simp [kd_sI, kd_sR, kd_sA, kd_sQ, kd_sL, kd_sD, ln_sI, ln_sR, ln_sA, ln_sQ, ln_sL, ln_sD, gI_sR, gI_sA, gI_sQ, gI_sL, gI_sD, gR_sI, gR_sA, gR_sQ, gR_sL, gR_sD, gA_sI, gA_sR, gA_sQ, gA_sL, gA_sD, gQ_sI, gQ_sR, gQ_sA, gQ_sL, gQ_sD, gL_sI, gL_sR, gL_sA, gL_sQ, gL_sD, kd_nO, kd_nA, *]) (by first | assumption | exact gI_sIs | exact gR_sRs | with_reducible rfl | (simp only [kd_sI, kd_sR, kd_sA, kd_sQ, kd_sL, kd_sD, ln_sI, ln_sR, ln_sA, ln_sQ, ln_sL, ln_sD, gI_sR, gI_sA, gI_sQ, gI_sL, gI_sD, gR_sI, gR_sA, gR_sQ, gR_sL, gR_sD, gA_sI, gA_sR, gA_sQ, gA_sL, gA_sD, gQ_sI, gQ_sR, gQ_sA, gQ_sL, gQ_sD, gL_sI, gL_sR, gL_sA, gL_sQ, gL_sD]; first | done | assumption | with_reducible rfl) | rfl) ?_
        refine r_iconst (v := nI 0) dX3_begins_26 (by decide) ?_
        refine r_bipush (v := nI 20) dX3_begins_27 (by decide) ?_
        refine r_iast dX3_begins_29 (by first | assumption | (simp only [kd_sI, kd_sR, kd_sA, kd_sQ, kd_sL, kd_sD, ln_sI, ln_sR, ln_sA, ln_sQ, ln_sL, ln_sD, gI_sR, gI_sA, gI_sQ, gI_sL, gI_sD, gR_sI, gR_sA, gR_sQ, gR_sL, gR_sD, gA_sI, gA_sR, gA_sQ, gA_sL, gA_sD, gQ_sI, gQ_sR, gQ_sA, gQ_sL, gQ_sD, gL_sI, gL_sR, gL_sA, gL_sQ, gL_sD]; assumption) | simp [kd_sI, kd_sR, kd_sA, kd_sQ, kd_sL, kd_sD, ln_sI, ln_sR, ln_sA, ln_sQ, ln_sL, ln_sD, gI_sR, gI_sA, gI_sQ, gI_sL, gI_sD, gR_sI, gR_sA, gR_sQ, gR_sL, gR_sD, gA_sI, gA_sR, gA_sQ, gA_sL, gA_sD, gQ_sI, gQ_sR, gQ_sA, gQ_sL, gQ_sD, gL_sI, gL_sR, gL_sA, gL_sQ, gL_sD, kd_nO, kd_nA, *]) (by first | decide | assumption) (by first | assumption | exact gI_sIs | exact gR_sRs | with_reducible rfl | (simp only [kd_sI, kd_sR, kd_sA, kd_sQ, kd_sL, kd_sD, ln_sI, ln_sR, ln_sA, ln_sQ, ln_sL, ln_sD, gI_sR, gI_sA, gI_sQ, gI_sL, gI_sD, gR_sI, gR_sA, gR_sQ, gR_sL, gR_sD, gA_sI, gA_sR, gA_sQ, gA_sL, gA_sD, gQ_sI, gQ_sR, gQ_sA, gQ_sL, gQ_sD, gL_sI, gL_sR, gL_sA, gL_sQ, gL_sD]; first | done | assumption | with_reducible rfl) | rfl) (by first | with_reducible rfl | assumption | (simp only [nI_add, pk_mul, nI_1]; with_reducible rfl)) (by first | assumption | omega) (by first | assumption | omega) ?_
        refine r_aload_n (i := 0) dX3_begins_30 rfl rfl ?_
        refine r_getR dX3_begins_31 fR_X3_7 (by first | assumption | (simp only [kd_sI, kd_sR, kd_sA, kd_sQ, kd_sL, kd_sD, ln_sI, ln_sR, ln_sA, ln_sQ, ln_sL, ln_sD, gI_sR, gI_sA, gI_sQ, gI_sL, gI_sD, gR_sI, gR_sA, gR_sQ, gR_sL, gR_sD, gA_sI, gA_sR, gA_sQ, gA_sL, gA_sD, gQ_sI, gQ_sR, gQ_sA, gQ_sL, gQ_sD, gL_sI, gL_sR, gL_sA, gL_sQ, gL_sD]; assumption) | simp [kd_sI, kd_sR, kd_sA, kd_sQ, kd_sL, kd_sD, ln_sI, ln_sR, ln_sA, ln_sQ, ln_sL, ln_sD, gI_sR, gI_sA, gI_sQ, gI_sL, gI_sD, gR_sI, gR_sA, gR_sQ, gR_sL, gR_sD, gA_sI, gA_sR, gA_sQ, gA_sL, gA_sD, gQ_sI, gQ_sR, gQ_sA, gQ_sL, gQ_sD, gL_sI, gL_sR, gL_sA, gL_sQ, gL_sD, kd_nO, kd_nA, *]) (by first | assumption | exact gI_sIs | exact gR_sRs | with_reducible rfl | (simp only [kd_sI, kd_sR, kd_sA, kd_sQ, kd_sL, kd_sD, ln_sI, ln_sR, ln_sA, ln_sQ, ln_sL, ln_sD, gI_sR, gI_sA, gI_sQ, gI_sL, gI_sD, gR_sI, gR_sA, gR_sQ, gR_sL, gR_sD, gA_sI, gA_sR, gA_sQ, gA_sL, gA_sD, gQ_sI, gQ_sR, gQ_sA, gQ_sL, gQ_sD, gL_sI, gL_sR, gL_sA, gL_sQ, gL_sD]; first | done | assumption | with_reducible rfl) | rfl) ?_
        refine r_iconst (v := nI 1) dX3_begins_34 (by decide) ?_
        refine r_iconst (v := nI 2) dX3_begins_35 (by decide) ?_
        refine r_iast dX3_begins_36 (by first | assumption | (simp only [kd_sI, kd_sR, kd_sA, kd_sQ, kd_sL, kd_sD, ln_sI, ln_sR, ln_sA, ln_sQ, ln_sL, ln_sD, gI_sR, gI_sA, gI_sQ, gI_sL, gI_sD, gR_sI, gR_sA, gR_sQ, gR_sL, gR_sD, gA_sI, gA_sR, gA_sQ, gA_sL, gA_sD, gQ_sI, gQ_sR, gQ_sA, gQ_sL, gQ_sD, gL_sI, gL_sR, gL_sA, gL_sQ, gL_sD]; assumption) | simp [kd_sI, kd_sR, kd_sA, kd_sQ, kd_sL, kd_sD, ln_sI, ln_sR, ln_sA, ln_sQ, ln_sL, ln_sD, gI_sR, gI_sA, gI_sQ, gI_sL, gI_sD, gR_sI, gR_sA, gR_sQ, gR_sL, gR_sD, gA_sI, gA_sR, gA_sQ, gA_sL, gA_sD, gQ_sI, gQ_sR, gQ_sA, gQ_sL, gQ_sD, gL_sI, gL_sR, gL_sA, gL_sQ, gL_sD, kd_nO, kd_nA, *]) (by first | decide | assumption) (by first | assumption | exact gI_sIs | exact gR_sRs | with_reducible rfl | (simp only [kd_sI, kd_sR, kd_sA, kd_sQ, kd_sL, kd_sD, ln_sI, ln_sR, ln_sA, ln_sQ, ln_sL, ln_sD, gI_sR, gI_sA, gI_sQ, gI_sL, gI_sD, gR_sI, gR_sA, gR_sQ, gR_sL, gR_sD, gA_sI, gA_sR, gA_sQ, gA_sL, gA_sD, gQ_sI, gQ_sR, gQ_sA, gQ_sL, gQ_sD, gL_sI, gL_sR, gL_sA, gL_sQ, gL_sD]; first | done | assumption | with_reducible rfl) | rfl) (by first | with_reducible rfl | assumption | (simp only [nI_add, pk_mul, nI_1]; with_reducible rfl)) (by first | assumption | omega) (by first | assumption | omega) ?_
        refine r_aload_n (i := 0) dX3_begins_37 rfl rfl ?_
        refine r_iconst (v := nI 0) dX3_begins_38 (by decide) ?_
        refine r_putI dX3_begins_39 fG_X3_69 (fun _ => by first | rfl | contradiction) (by first | assumption | (simp only [kd_sI, kd_sR, kd_sA, kd_sQ, kd_sL, kd_sD, ln_sI, ln_sR, ln_sA, ln_sQ, ln_sL, ln_sD, gI_sR, gI_sA, gI_sQ, gI_sL, gI_sD, gR_sI, gR_sA, gR_sQ, gR_sL, gR_sD, gA_sI, gA_sR, gA_sQ, gA_sL, gA_sD, gQ_sI, gQ_sR, gQ_sA, gQ_sL, gQ_sD, gL_sI, gL_sR, gL_sA, gL_sQ, gL_sD]; assumption) | simp [kd_sI, kd_sR, kd_sA, kd_sQ, kd_sL, kd_sD, ln_sI, ln_sR, ln_sA, ln_sQ, ln_sL, ln_sD, gI_sR, gI_sA, gI_sQ, gI_sL, gI_sD, gR_sI, gR_sA, gR_sQ, gR_sL, gR_sD, gA_sI, gA_sR, gA_sQ, gA_sL, gA_sD, gQ_sI, gQ_sR, gQ_sA, gQ_sL, gQ_sD, gL_sI, gL_sR, gL_sA, gL_sQ, gL_sD, kd_nO, kd_nA, *]) (by first | rfl | assumption) (by first | rfl | assumption) ?_
        refine r_return dX3_begins_42 rfl ?_
        refine hQ _ (((hU.sA (f := 68) (Or.inl (by decide)) (by decide) (by decide)).sA (f := 68) (Or.inl (by decide)) (by decide) (by decide)).sI (f := 74) (by decide) (by decide) (by decide)) ?_ gI_sIs
        show gA (sA (sA H1 1068 (ma 68) _) 1068 (ma 68) _) 1068 (ma 68) = _
        rw [gA_sAs, gA_sAs]
        funext j
        unfold upd g0
        by_cases j1 : j = 1
        · rw [if_pos j1, if_neg (by omega), if_pos j1]
        · rw [if_neg j1, if_neg j1]
          by_cases j0 : j = 0
          · rw [if_pos j0, if_pos j0]
          · rw [if_neg j0, if_neg j0]
            by_cases h : j < 385
            · exact hz1 j h
            · exact hz2 j (by omega)
      · exact absurd (by decide) h6
    | succ k ih =>
      intro i H1 hi hU hz1 hz2
      have hM1 := hM.mf hU.1
      have e01 := hM1.1
      obtain ⟨e68a_1, e68b_1, e68c_1⟩ : gR H1 68 m = some (ma 68) ∧ kd H1 (ma 68) = 1068 ∧ ln H1 (ma 68) = 385 := hM1.2 68 (by decide)
      refine r_iload_n (i := 1) dX3_begins_2 rfl rfl ?_
      refine r_sipush (v := nI 385) dX3_begins_3 (by decide) ?_
      refine r_icmp_ge (tgt := 22) dX3_begins_6 (by decide) (fun h6 => ?_) (fun h6 => ?_)
      · exact absurd h6 (nI_ge (by omega) (by omega))
      · refine r_aload_n (i := 0) dX3_begins_9 rfl rfl ?_
        refine r_getR dX3_begins_10 fR_X3_7 (by first | assumption | (simp only [kd_sI, kd_sR, kd_sA, kd_sQ, kd_sL, kd_sD, ln_sI, ln_sR, ln_sA, ln_sQ, ln_sL, ln_sD, gI_sR, gI_sA, gI_sQ, gI_sL, gI_sD, gR_sI, gR_sA, gR_sQ, gR_sL, gR_sD, gA_sI, gA_sR, gA_sQ, gA_sL, gA_sD, gQ_sI, gQ_sR, gQ_sA, gQ_sL, gQ_sD, gL_sI, gL_sR, gL_sA, gL_sQ, gL_sD]; assumption) | simp [kd_sI, kd_sR, kd_sA, kd_sQ, kd_sL, kd_sD, ln_sI, ln_sR, ln_sA, ln_sQ, ln_sL, ln_sD, gI_sR, gI_sA, gI_sQ, gI_sL, gI_sD, gR_sI, gR_sA, gR_sQ, gR_sL, gR_sD, gA_sI, gA_sR, gA_sQ, gA_sL, gA_sD, gQ_sI, gQ_sR, gQ_sA, gQ_sL, gQ_sD, gL_sI, gL_sR, gL_sA, gL_sQ, gL_sD, kd_nO, kd_nA, *]) (by first | assumption | exact gI_sIs | exact gR_sRs | with_reducible rfl | (simp only [kd_sI, kd_sR, kd_sA, kd_sQ, kd_sL, kd_sD, ln_sI, ln_sR, ln_sA, ln_sQ, ln_sL, ln_sD, gI_sR, gI_sA, gI_sQ, gI_sL, gI_sD, gR_sI, gR_sA, gR_sQ, gR_sL, gR_sD, gA_sI, gA_sR, gA_sQ, gA_sL, gA_sD, gQ_sI, gQ_sR, gQ_sA, gQ_sL, gQ_sD, gL_sI, gL_sR, gL_sA, gL_sQ, gL_sD]; first | done | assumption | with_reducible rfl) | rfl) ?_
        refine r_iload_n (i := 1) dX3_begins_13 rfl rfl ?_
        refine r_iconst (v := nI 0) dX3_begins_14 (by decide) ?_
        refine r_iast dX3_begins_15 (by first | assumption | (simp only [kd_sI, kd_sR, kd_sA, kd_sQ, kd_sL, kd_sD, ln_sI, ln_sR, ln_sA, ln_sQ, ln_sL, ln_sD, gI_sR, gI_sA, gI_sQ, gI_sL, gI_sD, gR_sI, gR_sA, gR_sQ, gR_sL, gR_sD, gA_sI, gA_sR, gA_sQ, gA_sL, gA_sD, gQ_sI, gQ_sR, gQ_sA, gQ_sL, gQ_sD, gL_sI, gL_sR, gL_sA, gL_sQ, gL_sD]; assumption) | simp [kd_sI, kd_sR, kd_sA, kd_sQ, kd_sL, kd_sD, ln_sI, ln_sR, ln_sA, ln_sQ, ln_sL, ln_sD, gI_sR, gI_sA, gI_sQ, gI_sL, gI_sD, gR_sI, gR_sA, gR_sQ, gR_sL, gR_sD, gA_sI, gA_sR, gA_sQ, gA_sL, gA_sD, gQ_sI, gQ_sR, gQ_sA, gQ_sL, gQ_sD, gL_sI, gL_sR, gL_sA, gL_sQ, gL_sD, kd_nO, kd_nA, *]) (by first | decide | assumption) (by first | assumption | exact gI_sIs | exact gR_sRs | with_reducible rfl | (simp only [kd_sI, kd_sR, kd_sA, kd_sQ, kd_sL, kd_sD, ln_sI, ln_sR, ln_sA, ln_sQ, ln_sL, ln_sD, gI_sR, gI_sA, gI_sQ, gI_sL, gI_sD, gR_sI, gR_sA, gR_sQ, gR_sL, gR_sD, gA_sI, gA_sR, gA_sQ, gA_sL, gA_sD, gQ_sI, gQ_sR, gQ_sA, gQ_sL, gQ_sD, gL_sI, gL_sR, gL_sA, gL_sQ, gL_sD]; first | done | assumption | with_reducible rfl) | rfl) (by first | with_reducible rfl | assumption | (simp only [nI_add, pk_mul, nI_1]; with_reducible rfl)) (by first | assumption | omega) (by first | assumption | omega) ?_
        refine r_iinc dX3_begins_16 rfl (by first | exact nI_1 _ | rfl) (by simp only [lset]; rfl) ?_
        refine r_goto (tgt := 2) dX3_begins_19 (by decide) ?_
        refine ih (i + 1) _ (by omega) (hU.sA (f := 68) (Or.inl (by decide)) (by decide) (by decide)) ?_ ?_
        · intro j hj
          rw [gA_sAs]
          unfold upd
          by_cases h : j = i
          · rw [if_pos h]
          · rw [if_neg h]; exact hz1 j (by omega)
        · intro j hj
          rw [gA_sAs]
          unfold upd
          by_cases h : j = i
          · rw [if_pos h]
          · rw [if_neg h]; exact hz2 j hj
  exact loop 385 0 H (by omega) MU.rf (fun j hj => absurd hj (by omega)) hz
theorem s_keeps {f : Nat} {L : List (Nat → Int32)} {r : Nat → Int32} (hd : 1 ≤ d) (hM : MO H m ma) (hf : f = 68 ∨ f = 70) (hP : PastR H m ma L) (hr : ∀ j, j < 385 → gA H (1000 + f) (ma f) j = r j) (hz : ZT r)
    (hQ : ∀ H', MU m ma [73, 74] H H' → PastR H' m ma (keepL L r) → Qr none H') : AMet G d 0 0 yX3_keeps wX3_keeps H [vR (some m), vR (some (ma f))] Qr Qx := by
  have e0 := hM.1
  obtain ⟨e73a, e73b, e73c⟩ : gR H 73 m = some (ma 73) ∧ kd H (ma 73) = 1073 ∧ ln H (ma 73) = 3080 := hM.2 73 (by decide)
  have hlf : lenF f = 385 := by rcases hf with rfl | rfl <;> rfl
  have hne : lenF f ≠ 0 := by rw [hlf]; decide
  have hff : f ≠ 78 := by omega
  have tail : ∀ (H1 : AH) (L1 : List (Nat → Int32)) (o : Option AV), MU m ma [73, 74] H H1 → PastR H1 m ma L1 → L1.length ≤ 7 → keepL L r = L1 ++ [r] → AW mX3_keeps G d Qr Qx 0 0 H1 50 [some (vR (some m)), some (vR (some (ma f))), o] [] := by
    intro H1 L1 o hU hP1 h7 hk
    have hM1 := hM.mf hU.1
    have e01 := hM1.1
    obtain ⟨e73a_1, e73b_1, e73c_1⟩ : gR H1 73 m = some (ma 73) ∧ kd H1 (ma 73) = 1073 ∧ ln H1 (ma 73) = 3080 := hM1.2 73 (by decide)
    obtain ⟨p1, p2, p3, p4⟩ := hP1
    obtain ⟨-, x2, x3⟩ := hM1.2 f hne
    rw [if_neg hff] at x2
    rw [hlf] at x3
    refine r_aload_n (i := 1) dX3_keeps_50 rfl rfl ?_
    refine r_iconst (v := nI 0) dX3_keeps_51 (by decide) ?_
    refine r_aload_n (i := 0) dX3_keeps_52 rfl rfl ?_
    refine r_getR dX3_keeps_53 fR_X3_19 (by first | assumption | (simp only [kd_sI, kd_sR, kd_sA, kd_sQ, kd_sL, kd_sD, ln_sI, ln_sR, ln_sA, ln_sQ, ln_sL, ln_sD, gI_sR, gI_sA, gI_sQ, gI_sL, gI_sD, gR_sI, gR_sA, gR_sQ, gR_sL, gR_sD, gA_sI, gA_sR, gA_sQ, gA_sL, gA_sD, gQ_sI, gQ_sR, gQ_sA, gQ_sL, gQ_sD, gL_sI, gL_sR, gL_sA, gL_sQ, gL_sD]; assumption) | simp [kd_sI, kd_sR, kd_sA, kd_sQ, kd_sL, kd_sD, ln_sI, ln_sR, ln_sA, ln_sQ, ln_sL, ln_sD, gI_sR, gI_sA, gI_sQ, gI_sL, gI_sD, gR_sI, gR_sA, gR_sQ, gR_sL, gR_sD, gA_sI, gA_sR, gA_sQ, gA_sL, gA_sD, gQ_sI, gQ_sR, gQ_sA, gQ_sL, gQ_sD, gL_sI, gL_sR, gL_sA, gL_sQ, gL_sD, kd_nO, kd_nA, *]) (by first | assumption | exact gI_sIs | exact gR_sRs | with_reducible rfl | (simp only [kd_sI, kd_sR, kd_sA, kd_sQ, kd_sL, kd_sD, ln_sI, ln_sR, ln_sA, ln_sQ, ln_sL, ln_sD, gI_sR, gI_sA, gI_sQ, gI_sL, gI_sD, gR_sI, gR_sA, gR_sQ, gR_sL, gR_sD, gA_sI, gA_sR, gA_sQ, gA_sL, gA_sD, gQ_sI, gQ_sR, gQ_sA, gQ_sL, gQ_sD, gL_sI, gL_sR, gL_sA, gL_sQ, gL_sD]; first | done | assumption | with_reducible rfl) | rfl) ?_
    refine r_sipush (v := nI 385) dX3_keeps_56 (by decide) ?_
    refine r_aload_n (i := 0) dX3_keeps_59 rfl rfl ?_
    refine r_getI dX3_keeps_60 fR_X3_69 (by first | assumption | (simp only [kd_sI, kd_sR, kd_sA, kd_sQ, kd_sL, kd_sD, ln_sI, ln_sR, ln_sA, ln_sQ, ln_sL, ln_sD, gI_sR, gI_sA, gI_sQ, gI_sL, gI_sD, gR_sI, gR_sA, gR_sQ, gR_sL, gR_sD, gA_sI, gA_sR, gA_sQ, gA_sL, gA_sD, gQ_sI, gQ_sR, gQ_sA, gQ_sL, gQ_sD, gL_sI, gL_sR, gL_sA, gL_sQ, gL_sD]; assumption) | simp [kd_sI, kd_sR, kd_sA, kd_sQ, kd_sL, kd_sD, ln_sI, ln_sR, ln_sA, ln_sQ, ln_sL, ln_sD, gI_sR, gI_sA, gI_sQ, gI_sL, gI_sD, gR_sI, gR_sA, gR_sQ, gR_sL, gR_sD, gA_sI, gA_sR, gA_sQ, gA_sL, gA_sD, gQ_sI, gQ_sR, gQ_sA, gQ_sL, gQ_sD, gL_sI, gL_sR, gL_sA, gL_sQ, gL_sD, kd_nO, kd_nA, *]) (by first | assumption | exact gI_sIs | exact gR_sRs | with_reducible rfl | (simp only [kd_sI, kd_sR, kd_sA, kd_sQ, kd_sL, kd_sD, ln_sI, ln_sR, ln_sA, ln_sQ, ln_sL, ln_sD, gI_sR, gI_sA, gI_sQ, gI_sL, gI_sD, gR_sI, gR_sA, gR_sQ, gR_sL, gR_sD, gA_sI, gA_sR, gA_sQ, gA_sL, gA_sD, gQ_sI, gQ_sR, gQ_sA, gQ_sL, gQ_sD, gL_sI, gL_sR, gL_sA, gL_sQ, gL_sD]; first | done | assumption | with_reducible rfl) | rfl) ?_
    refine r_imul dX3_keeps_63 ?_
    try simp only [nI_add, pk_mul, nI_1]
    refine r_callS (As := [_, _, _, _]) (mc' := 0) (ms' := 0) dX3_keeps_64 k_X3_72 rfl (by first | assumption | omega) (by first | assumption | omega) (by first | assumption | omega) (Nat.le_of_ble_eq_true rfl) ?_
    refine s_copies (a := ma f) (b := ma 73) (k1 := 1000 + f) (k2 := 1073) (n1 := 385) (n2 := 3080) (p := 0) (q := 385 * L1.length) x2 e73b_1 (by omega) (by decide) (by omega) x3 e73c_1 (by omega) (by omega) (by decide) (by decide) ?_
    refine AW.name (fun H2 hH2 => ?_)
    have hU2 : MU m ma [73, 74] H H2 := by
      rw [hH2]
      exact hU.sA (f := 73) (Or.inl (by decide)) (by decide) (by decide)
    have hM2 := hM.mf hU2.1
    have e02 := hM2.1
    have q1 : gI H2 74 m = nI L1.length := by rw [hH2]; exact p1
    have q3 : gA H2 1073 (ma 73) = cpF (gA H1 (1000 + f) (ma f)) 0 (385 * L1.length) 385 (gA H1 1073 (ma 73)) := by rw [hH2, gA_sAs]
    refine r_aload_n (i := 0) dX3_keeps_67 rfl rfl ?_
    refine r_dup dX3_keeps_68 rfl ?_
    refine r_getI dX3_keeps_69 fR_X3_69 (by first | assumption | (simp only [kd_sI, kd_sR, kd_sA, kd_sQ, kd_sL, kd_sD, ln_sI, ln_sR, ln_sA, ln_sQ, ln_sL, ln_sD, gI_sR, gI_sA, gI_sQ, gI_sL, gI_sD, gR_sI, gR_sA, gR_sQ, gR_sL, gR_sD, gA_sI, gA_sR, gA_sQ, gA_sL, gA_sD, gQ_sI, gQ_sR, gQ_sA, gQ_sL, gQ_sD, gL_sI, gL_sR, gL_sA, gL_sQ, gL_sD]; assumption) | simp [kd_sI, kd_sR, kd_sA, kd_sQ, kd_sL, kd_sD, ln_sI, ln_sR, ln_sA, ln_sQ, ln_sL, ln_sD, gI_sR, gI_sA, gI_sQ, gI_sL, gI_sD, gR_sI, gR_sA, gR_sQ, gR_sL, gR_sD, gA_sI, gA_sR, gA_sQ, gA_sL, gA_sD, gQ_sI, gQ_sR, gQ_sA, gQ_sL, gQ_sD, gL_sI, gL_sR, gL_sA, gL_sQ, gL_sD, kd_nO, kd_nA, *]) (by first | assumption | exact gI_sIs | exact gR_sRs | with_reducible rfl | (simp only [kd_sI, kd_sR, kd_sA, kd_sQ, kd_sL, kd_sD, ln_sI, ln_sR, ln_sA, ln_sQ, ln_sL, ln_sD, gI_sR, gI_sA, gI_sQ, gI_sL, gI_sD, gR_sI, gR_sA, gR_sQ, gR_sL, gR_sD, gA_sI, gA_sR, gA_sQ, gA_sL, gA_sD, gQ_sI, gQ_sR, gQ_sA, gQ_sL, gQ_sD, gL_sI, gL_sR, gL_sA, gL_sQ, gL_sD]; first | done | assumption | with_reducible rfl) | rfl) ?_
    refine r_iconst (v := nI 1) dX3_keeps_72 (by decide) ?_
    refine r_iadd dX3_keeps_73 ?_
    refine r_putI dX3_keeps_74 fG_X3_69 (fun _ => by first | rfl | contradiction) (by first | assumption | (simp only [kd_sI, kd_sR, kd_sA, kd_sQ, kd_sL, kd_sD, ln_sI, ln_sR, ln_sA, ln_sQ, ln_sL, ln_sD, gI_sR, gI_sA, gI_sQ, gI_sL, gI_sD, gR_sI, gR_sA, gR_sQ, gR_sL, gR_sD, gA_sI, gA_sR, gA_sQ, gA_sL, gA_sD, gQ_sI, gQ_sR, gQ_sA, gQ_sL, gQ_sD, gL_sI, gL_sR, gL_sA, gL_sQ, gL_sD]; assumption) | simp [kd_sI, kd_sR, kd_sA, kd_sQ, kd_sL, kd_sD, ln_sI, ln_sR, ln_sA, ln_sQ, ln_sL, ln_sD, gI_sR, gI_sA, gI_sQ, gI_sL, gI_sD, gR_sI, gR_sA, gR_sQ, gR_sL, gR_sD, gA_sI, gA_sR, gA_sQ, gA_sL, gA_sD, gQ_sI, gQ_sR, gQ_sA, gQ_sL, gQ_sD, gL_sI, gL_sR, gL_sA, gL_sQ, gL_sD, kd_nO, kd_nA, *]) (by first | rfl | assumption) (by first | rfl | assumption) ?_
    refine r_return dX3_keeps_77 rfl ?_
    refine hQ _ (hU2.sI (by decide) (by decide) (by decide)) ?_
    rw [hk]
    refine ⟨by rw [gI_sIs, List.length_append]; exact nI_add _ _, by rw [List.length_append]; simp; omega, ?_, ?_⟩
    · intro k j hk hj
      rw [List.length_append] at hk
      have hk' : k < L1.length + 1 := hk
      show gA H2 1073 (ma 73) _ = _
      rw [q3]
      unfold cpF
      by_cases hlast : k = L1.length
      · rw [if_pos (by subst hlast; omega), hlast, show 0 + (385 * L1.length + j - 385 * L1.length) = j by omega]
        rw [show gA H1 (1000 + f) = gA H (1000 + f) from (hU.2 f (by rcases hf with rfl | rfl <;> decide)).2, hr j hj]
        simp
      · rw [if_neg (by have : 385 * k + 385 ≤ 385 * L1.length := by omega
                       omega), p3 k j (by omega) hj]
        simp [List.getElem?_append, show k < L1.length by omega]
    · intro k
      by_cases h1 : k < L1.length
      · have := p4 k
        simpa [List.getElem?_append, h1] using this
      · by_cases h2 : k = L1.length
        · subst h2; simpa using hz
        · have : (L1 ++ [r]).getD k z0 = z0 := by
            simp [List.getElem?_append, show ¬ k < L1.length by omega, show k - L1.length ≠ 0 by omega]
          rw [this]
          intro i _
          rfl
  obtain ⟨p1, p2, p3, p4⟩ := hP
  refine AMet.of (M := mX3_keeps) (maxL := 3) rfl rfl (Nat.le_of_ble_eq_true rfl) ?_
  show AW mX3_keeps _ _ _ _ _ _ _ 0 [some (vR (some m)), some (vR (some (ma f))), none] []
  refine r_aload_n (i := 0) dX3_keeps_0 rfl rfl ?_
  refine r_getI dX3_keeps_1 fR_X3_69 (by first | assumption | (simp only [kd_sI, kd_sR, kd_sA, kd_sQ, kd_sL, kd_sD, ln_sI, ln_sR, ln_sA, ln_sQ, ln_sL, ln_sD, gI_sR, gI_sA, gI_sQ, gI_sL, gI_sD, gR_sI, gR_sA, gR_sQ, gR_sL, gR_sD, gA_sI, gA_sR, gA_sQ, gA_sL, gA_sD, gQ_sI, gQ_sR, gQ_sA, gQ_sL, gQ_sD, gL_sI, gL_sR, gL_sA, gL_sQ, gL_sD]; assumption) | simp [kd_sI, kd_sR, kd_sA, kd_sQ, kd_sL, kd_sD, ln_sI, ln_sR, ln_sA, ln_sQ, ln_sL, ln_sD, gI_sR, gI_sA, gI_sQ, gI_sL, gI_sD, gR_sI, gR_sA, gR_sQ, gR_sL, gR_sD, gA_sI, gA_sR, gA_sQ, gA_sL, gA_sD, gQ_sI, gQ_sR, gQ_sA, gQ_sL, gQ_sD, gL_sI, gL_sR, gL_sA, gL_sQ, gL_sD, kd_nO, kd_nA, *]) (by first | assumption | exact gI_sIs | exact gR_sRs | with_reducible rfl | (simp only [kd_sI, kd_sR, kd_sA, kd_sQ, kd_sL, kd_sD, ln_sI, ln_sR, ln_sA, ln_sQ, ln_sL, ln_sD, gI_sR, gI_sA, gI_sQ, gI_sL, gI_sD, gR_sI, gR_sA, gR_sQ, gR_sL, gR_sD, gA_sI, gA_sR, gA_sQ, gA_sL, gA_sD, gQ_sI, gQ_sR, gQ_sA, gQ_sL, gQ_sD, gL_sI, gL_sR, gL_sA, gL_sQ, gL_sD]; first | done | assumption | with_reducible rfl) | rfl) ?_
  refine r_bipush (v := nI 8) dX3_keeps_4 (by decide) ?_
  refine r_icmp_ne (tgt := 50) dX3_keeps_6 (by decide) (fun h6 => ?_) (fun h6 => ?_)
  · have hne8 : L.length ≠ 8 := fun e => h6 (by rw [e])
    refine tail H L _ MU.rf ⟨p1, p2, p3, p4⟩ (by omega) ?_
    unfold keepL
    rw [if_neg hne8]
  · have h8 : L.length = 8 := (nI_eq (by omega) (by omega)).mp h6
    refine r_iconst (v := nI 0) dX3_keeps_9 (by decide) ?_
    refine r_istore_n (i := 2) dX3_keeps_10 rfl (Nat.le_of_ble_eq_true rfl) (by simp only [lset]; rfl) ?_
    have loop : ∀ (k i : Nat) (H1 : AH), i + k = 2695 → H1 = sA H 1073 (ma 73) (cpF (gA H 1073 (ma 73)) 385 0 i (gA H 1073 (ma 73))) → AW mX3_keeps G d Qr Qx 0 0 H1 11 [some (vR (some m)), some (vR (some (ma f))), some (vI (nI i))] [] := by
      intro k
      induction k with
      | zero =>
        intro i H1 hi hH
        have hU : MU m ma [73, 74] H H1 := by
          rw [hH]
          exact MU.rf.sA (f := 73) (Or.inl (by decide)) (by decide) (by decide)
        have hM1 := hM.mf hU.1
        have e01 := hM1.1
        have q1 : gI H1 74 m = nI 8 := by rw [hH, ← h8]; exact p1
        rw [show i = 2695 by omega] at hH ⊢
        refine r_iload_n (i := 2) dX3_keeps_11 rfl rfl ?_
        refine r_sipush (v := nI 2695) dX3_keeps_12 (by decide) ?_
        refine r_icmp_ge (tgt := 40) dX3_keeps_15 (by decide) (fun h15 => ?_) (fun h15 => ?_)
        · refine r_aload_n (i := 0) dX3_keeps_40 rfl rfl ?_
          refine r_dup dX3_keeps_41 rfl ?_
          refine r_getI dX3_keeps_42 fR_X3_69 (by first | assumption | (simp only [kd_sI, kd_sR, kd_sA, kd_sQ, kd_sL, kd_sD, ln_sI, ln_sR, ln_sA, ln_sQ, ln_sL, ln_sD, gI_sR, gI_sA, gI_sQ, gI_sL, gI_sD, gR_sI, gR_sA, gR_sQ, gR_sL, gR_sD, gA_sI, gA_sR, gA_sQ, gA_sL, gA_sD, gQ_sI, gQ_sR, gQ_sA, gQ_sL, gQ_sD, gL_sI, gL_sR, gL_sA, gL_sQ, gL_sD]; assumption) | simp [kd_sI, kd_sR, kd_sA, kd_sQ, kd_sL, kd_sD, ln_sI, ln_sR, ln_sA, ln_sQ, ln_sL, ln_sD, gI_sR, gI_sA, gI_sQ, gI_sL, gI_sD, gR_sI, gR_sA, gR_sQ, gR_sL, gR_sD, gA_sI, gA_sR, gA_sQ, gA_sL, gA_sD, gQ_sI, gQ_sR, gQ_sA, gQ_sL, gQ_sD, gL_sI, gL_sR, gL_sA, gL_sQ, gL_sD, kd_nO, kd_nA, *]) (by first | assumption | exact gI_sIs | exact gR_sRs | with_reducible rfl | (simp only [kd_sI, kd_sR, kd_sA, kd_sQ, kd_sL, kd_sD, ln_sI, ln_sR, ln_sA, ln_sQ, ln_sL, ln_sD, gI_sR, gI_sA, gI_sQ, gI_sL, gI_sD, gR_sI, gR_sA, gR_sQ, gR_sL, gR_sD, gA_sI, gA_sR, gA_sQ, gA_sL, gA_sD, gQ_sI, gQ_sR, gQ_sA, gQ_sL, gQ_sD, gL_sI, gL_sR, gL_sA, gL_sQ, gL_sD]; first | done | assumption | with_reducible rfl) | rfl) ?_
          refine r_iconst (v := nI 1) dX3_keeps_45 (by decide) ?_
          refine r_isub dX3_keeps_46 ?_
          refine r_putI dX3_keeps_47 fG_X3_69 (fun _ => by first | rfl | contradiction) (by first | assumption | (simp only [kd_sI, kd_sR, kd_sA, kd_sQ, kd_sL, kd_sD, ln_sI, ln_sR, ln_sA, ln_sQ, ln_sL, ln_sD, gI_sR, gI_sA, gI_sQ, gI_sL, gI_sD, gR_sI, gR_sA, gR_sQ, gR_sL, gR_sD, gA_sI, gA_sR, gA_sQ, gA_sL, gA_sD, gQ_sI, gQ_sR, gQ_sA, gQ_sL, gQ_sD, gL_sI, gL_sR, gL_sA, gL_sQ, gL_sD]; assumption) | simp [kd_sI, kd_sR, kd_sA, kd_sQ, kd_sL, kd_sD, ln_sI, ln_sR, ln_sA, ln_sQ, ln_sL, ln_sD, gI_sR, gI_sA, gI_sQ, gI_sL, gI_sD, gR_sI, gR_sA, gR_sQ, gR_sL, gR_sD, gA_sI, gA_sR, gA_sQ, gA_sL, gA_sD, gQ_sI, gQ_sR, gQ_sA, gQ_sL, gQ_sD, gL_sI, gL_sR, gL_sA, gL_sQ, gL_sD, kd_nO, kd_nA, *]) (by first | rfl | assumption) (by first | rfl | assumption) ?_
          refine tail _ L.tail _ (hU.sI (f := 74) (by decide) (by decide) (by decide)) ?_ (by rw [List.length_tail]; omega) (by unfold keepL; rw [if_pos h8])
          refine ⟨by rw [gI_sIs, List.length_tail, h8]; decide, by rw [List.length_tail]; omega, ?_, ?_⟩
          · intro k j hk hj
            rw [List.length_tail] at hk
            show gA H1 1073 (ma 73) _ = _
            rw [hH, gA_sAs]
            unfold cpF
            rw [if_pos (by omega), show 385 + (385 * k + j - 0) = 385 * (k + 1) + j by omega, p3 (k + 1) j (by omega) hj]
            simp
          · intro k
            have := p4 (k + 1)
            simpa using this
        · exact absurd (by decide) h15
      | succ k ih =>
        intro i H1 hi hH
        have hU : MU m ma [73, 74] H H1 := by
          rw [hH]
          exact MU.rf.sA (f := 73) (Or.inl (by decide)) (by decide) (by decide)
        have hM1 := hM.mf hU.1
        have e01 := hM1.1
        obtain ⟨e73a_1, e73b_1, e73c_1⟩ : gR H1 73 m = some (ma 73) ∧ kd H1 (ma 73) = 1073 ∧ ln H1 (ma 73) = 3080 := hM1.2 73 (by decide)
        have c5 : gA H1 1073 (ma 73) (i + 385) = gA H 1073 (ma 73) (385 + i) := by
          rw [hH, gA_sAs]
          unfold cpF
          rw [if_neg (by omega), Nat.add_comm]
        have c6 : gA H1 1073 (ma 73) = cpF (gA H 1073 (ma 73)) 385 0 i (gA H 1073 (ma 73)) := by rw [hH, gA_sAs]
        refine r_iload_n (i := 2) dX3_keeps_11 rfl rfl ?_
        refine r_sipush (v := nI 2695) dX3_keeps_12 (by decide) ?_
        refine r_icmp_ge (tgt := 40) dX3_keeps_15 (by decide) (fun h15 => ?_) (fun h15 => ?_)
        · exact absurd h15 (nI_ge (by omega) (by omega))
        · refine r_aload_n (i := 0) dX3_keeps_18 rfl rfl ?_
          refine r_getR dX3_keeps_19 fR_X3_19 (by first | assumption | (simp only [kd_sI, kd_sR, kd_sA, kd_sQ, kd_sL, kd_sD, ln_sI, ln_sR, ln_sA, ln_sQ, ln_sL, ln_sD, gI_sR, gI_sA, gI_sQ, gI_sL, gI_sD, gR_sI, gR_sA, gR_sQ, gR_sL, gR_sD, gA_sI, gA_sR, gA_sQ, gA_sL, gA_sD, gQ_sI, gQ_sR, gQ_sA, gQ_sL, gQ_sD, gL_sI, gL_sR, gL_sA, gL_sQ, gL_sD]; assumption) | simp [kd_sI, kd_sR, kd_sA, kd_sQ, kd_sL, kd_sD, ln_sI, ln_sR, ln_sA, ln_sQ, ln_sL, ln_sD, gI_sR, gI_sA, gI_sQ, gI_sL, gI_sD, gR_sI, gR_sA, gR_sQ, gR_sL, gR_sD, gA_sI, gA_sR, gA_sQ, gA_sL, gA_sD, gQ_sI, gQ_sR, gQ_sA, gQ_sL, gQ_sD, gL_sI, gL_sR, gL_sA, gL_sQ, gL_sD, kd_nO, kd_nA, *]) (by first | assumption | exact gI_sIs | exact gR_sRs | with_reducible rfl | (simp only [kd_sI, kd_sR, kd_sA, kd_sQ, kd_sL, kd_sD, ln_sI, ln_sR, ln_sA, ln_sQ, ln_sL, ln_sD, gI_sR, gI_sA, gI_sQ, gI_sL, gI_sD, gR_sI, gR_sA, gR_sQ, gR_sL, gR_sD, gA_sI, gA_sR, gA_sQ, gA_sL, gA_sD, gQ_sI, gQ_sR, gQ_sA, gQ_sL, gQ_sD, gL_sI, gL_sR, gL_sA, gL_sQ, gL_sD]; first | done | assumption | with_reducible rfl) | rfl) ?_
          refine r_iload_n (i := 2) dX3_keeps_22 rfl rfl ?_
          refine r_aload_n (i := 0) dX3_keeps_23 rfl rfl ?_
          refine r_getR dX3_keeps_24 fR_X3_19 (by first | assumption | (simp only [kd_sI, kd_sR, kd_sA, kd_sQ, kd_sL, kd_sD, ln_sI, ln_sR, ln_sA, ln_sQ, ln_sL, ln_sD, gI_sR, gI_sA, gI_sQ, gI_sL, gI_sD, gR_sI, gR_sA, gR_sQ, gR_sL, gR_sD, gA_sI, gA_sR, gA_sQ, gA_sL, gA_sD, gQ_sI, gQ_sR, gQ_sA, gQ_sL, gQ_sD, gL_sI, gL_sR, gL_sA, gL_sQ, gL_sD]; assumption) | simp [kd_sI, kd_sR, kd_sA, kd_sQ, kd_sL, kd_sD, ln_sI, ln_sR, ln_sA, ln_sQ, ln_sL, ln_sD, gI_sR, gI_sA, gI_sQ, gI_sL, gI_sD, gR_sI, gR_sA, gR_sQ, gR_sL, gR_sD, gA_sI, gA_sR, gA_sQ, gA_sL, gA_sD, gQ_sI, gQ_sR, gQ_sA, gQ_sL, gQ_sD, gL_sI, gL_sR, gL_sA, gL_sQ, gL_sD, kd_nO, kd_nA, *]) (by first | assumption | exact gI_sIs | exact gR_sRs | with_reducible rfl | (simp only [kd_sI, kd_sR, kd_sA, kd_sQ, kd_sL, kd_sD, ln_sI, ln_sR, ln_sA, ln_sQ, ln_sL, ln_sD, gI_sR, gI_sA, gI_sQ, gI_sL, gI_sD, gR_sI, gR_sA, gR_sQ, gR_sL, gR_sD, gA_sI, gA_sR, gA_sQ, gA_sL, gA_sD, gQ_sI, gQ_sR, gQ_sA, gQ_sL, gQ_sD, gL_sI, gL_sR, gL_sA, gL_sQ, gL_sD]; first | done | assumption | with_reducible rfl) | rfl) ?_
          refine r_iload_n (i := 2) dX3_keeps_27 rfl rfl ?_
          refine r_sipush (v := nI 385) dX3_keeps_28 (by decide) ?_
          refine r_iadd dX3_keeps_31 ?_
          refine r_iald dX3_keeps_32 (by first | assumption | (simp only [kd_sI, kd_sR, kd_sA, kd_sQ, kd_sL, kd_sD, ln_sI, ln_sR, ln_sA, ln_sQ, ln_sL, ln_sD, gI_sR, gI_sA, gI_sQ, gI_sL, gI_sD, gR_sI, gR_sA, gR_sQ, gR_sL, gR_sD, gA_sI, gA_sR, gA_sQ, gA_sL, gA_sD, gQ_sI, gQ_sR, gQ_sA, gQ_sL, gQ_sD, gL_sI, gL_sR, gL_sA, gL_sQ, gL_sD]; assumption) | simp [kd_sI, kd_sR, kd_sA, kd_sQ, kd_sL, kd_sD, ln_sI, ln_sR, ln_sA, ln_sQ, ln_sL, ln_sD, gI_sR, gI_sA, gI_sQ, gI_sL, gI_sD, gR_sI, gR_sA, gR_sQ, gR_sL, gR_sD, gA_sI, gA_sR, gA_sQ, gA_sL, gA_sD, gQ_sI, gQ_sR, gQ_sA, gQ_sL, gQ_sD, gL_sI, gL_sR, gL_sA, gL_sQ, gL_sD, kd_nO, kd_nA, *]) (by first | decide | assumption) (by first | assumption | exact gI_sIs | exact gR_sRs | with_reducible rfl | (simp only [kd_sI, kd_sR, kd_sA, kd_sQ, kd_sL, kd_sD, ln_sI, ln_sR, ln_sA, ln_sQ, ln_sL, ln_sD, gI_sR, gI_sA, gI_sQ, gI_sL, gI_sD, gR_sI, gR_sA, gR_sQ, gR_sL, gR_sD, gA_sI, gA_sR, gA_sQ, gA_sL, gA_sD, gQ_sI, gQ_sR, gQ_sA, gQ_sL, gQ_sD, gL_sI, gL_sR, gL_sA, gL_sQ, gL_sD]; first | done | assumption | with_reducible rfl) | rfl) (by first | with_reducible rfl | assumption | (simp only [nI_add, pk_mul, nI_1]; with_reducible rfl)) (by first | assumption | omega) (by first | assumption | omega) (by first | assumption | exact gI_sIs | exact gR_sRs | with_reducible rfl | (simp only [kd_sI, kd_sR, kd_sA, kd_sQ, kd_sL, kd_sD, ln_sI, ln_sR, ln_sA, ln_sQ, ln_sL, ln_sD, gI_sR, gI_sA, gI_sQ, gI_sL, gI_sD, gR_sI, gR_sA, gR_sQ, gR_sL, gR_sD, gA_sI, gA_sR, gA_sQ, gA_sL, gA_sD, gQ_sI, gQ_sR, gQ_sA, gQ_sL, gQ_sD, gL_sI, gL_sR, gL_sA, gL_sQ, gL_sD]; first | done | assumption | with_reducible rfl) | rfl) ?_
          refine r_iast dX3_keeps_33 (by first | assumption | (simp only [kd_sI, kd_sR, kd_sA, kd_sQ, kd_sL, kd_sD, ln_sI, ln_sR, ln_sA, ln_sQ, ln_sL, ln_sD, gI_sR, gI_sA, gI_sQ, gI_sL, gI_sD, gR_sI, gR_sA, gR_sQ, gR_sL, gR_sD, gA_sI, gA_sR, gA_sQ, gA_sL, gA_sD, gQ_sI, gQ_sR, gQ_sA, gQ_sL, gQ_sD, gL_sI, gL_sR, gL_sA, gL_sQ, gL_sD]; assumption) | simp [kd_sI, kd_sR, kd_sA, kd_sQ, kd_sL, kd_sD, ln_sI, ln_sR, ln_sA, ln_sQ, ln_sL, ln_sD, gI_sR, gI_sA, gI_sQ, gI_sL, gI_sD, gR_sI, gR_sA, gR_sQ, gR_sL, gR_sD, gA_sI, gA_sR, gA_sQ, gA_sL, gA_sD, gQ_sI, gQ_sR, gQ_sA, gQ_sL, gQ_sD, gL_sI, gL_sR, gL_sA, gL_sQ, gL_sD, kd_nO, kd_nA, *]) (by first | decide | assumption) (by first | assumption | exact gI_sIs | exact gR_sRs | with_reducible rfl | (simp only [kd_sI, kd_sR, kd_sA, kd_sQ, kd_sL, kd_sD, ln_sI, ln_sR, ln_sA, ln_sQ, ln_sL, ln_sD, gI_sR, gI_sA, gI_sQ, gI_sL, gI_sD, gR_sI, gR_sA, gR_sQ, gR_sL, gR_sD, gA_sI, gA_sR, gA_sQ, gA_sL, gA_sD, gQ_sI, gQ_sR, gQ_sA, gQ_sL, gQ_sD, gL_sI, gL_sR, gL_sA, gL_sQ, gL_sD]; first | done | assumption | with_reducible rfl) | rfl) (by first | with_reducible rfl | assumption | (simp only [nI_add, pk_mul, nI_1]; with_reducible rfl)) (by first | assumption | omega) (by first | assumption | omega) ?_
          refine r_iinc dX3_keeps_34 rfl (by first | exact nI_1 _ | rfl) (by simp only [lset]; rfl) ?_
          refine r_goto (tgt := 11) dX3_keeps_37 (by decide) ?_
          refine ih (i + 1) _ (by omega) ?_
          rw [c6]
          have e9 := cpF_s (F := gA H 1073 (ma 73)) (p := 385) (q := 0) (n := i) (T := gA H 1073 (ma 73))
          rw [show 0 + i = i by omega] at e9
          rw [e9, hH, sA_sA]
    exact loop 2695 0 H (by omega) (by rw [cpF_0, sA_self])
end Mo10
