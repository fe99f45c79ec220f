set_option maxRecDepth 100000
def insD : List Nat → Nat → List Nat
  | [], x => [x]
  | a :: l, x => if x ≤ a then a :: insD l x else x :: a :: l
theorem insD_len {l : List Nat} {x : Nat} : (insD l x).length = l.length + 1 := by
  induction l with
  | nil => rfl
  | cons a l ih =>
    unfold insD
    by_cases h : x ≤ a
    · rw [if_pos h, List.length_cons, ih, List.length_cons]
    · rw [if_neg h]; rfl
theorem insD_mem {l : List Nat} {x y : Nat} (h : y ∈ insD l x) : y = x ∨ y ∈ l := by
  induction l with
  | nil => exact Or.inl (List.mem_singleton.mp h)
  | cons a l ih =>
    unfold insD at h
    by_cases h1 : x ≤ a
    · rw [if_pos h1] at h
      rcases List.mem_cons.mp h with h | h
      · exact Or.inr (by rw [h]; exact List.mem_cons_self)
      · rcases ih h with h | h
        · exact Or.inl h
        · exact Or.inr (List.mem_cons_of_mem _ h)
    · rw [if_neg h1] at h
      rcases List.mem_cons.mp h with h | h
      · exact Or.inl h
      · exact Or.inr h
def desc (l : List Nat) : Prop := l.Pairwise (fun a b => b ≤ a)
theorem insD_desc {l : List Nat} {x : Nat} (h : desc l) : desc (insD l x) := by
  induction l with
  | nil => exact List.pairwise_singleton _ _
  | cons a l ih =>
    unfold desc at h ih ⊢
    obtain ⟨h1, h2⟩ := List.pairwise_cons.mp h
    unfold insD
    by_cases h3 : x ≤ a
    · rw [if_pos h3]
      refine List.pairwise_cons.mpr ⟨?_, ih h2⟩
      intro y hy
      rcases insD_mem hy with rfl | hy
      · exact h3
      · exact h1 y hy
    · rw [if_neg h3]
      refine List.pairwise_cons.mpr ⟨?_, h⟩
      intro y hy
      rcases List.mem_cons.mp hy with rfl | hy
      · omega
      · have := h1 y hy; omega
theorem insD_at : ∀ (l : List Nat) (k x : Nat), desc l → k ≤ l.length → (∀ j, k ≤ j → j < l.length → l.getD j 0 < x) → (k = 0 ∨ x ≤ l.getD (k - 1) 0) → insD l x = l.take k ++ x :: l.drop k := by
  intro l
  induction l with
  | nil =>
    intro k x _ hk _ _
    have : k = 0 := by simpa using hk
    subst this
    rfl
  | cons a l ih =>
    intro k x hd hk hlt hge
    obtain ⟨h1, h2⟩ := List.pairwise_cons.mp hd
    cases k with
    | zero =>
      unfold insD
      have := hlt 0 (by omega) (by simp)
      have h3 : a < x := by simpa using this
      rw [if_neg (by omega)]
      rfl
    | succ k =>
      have hge' : x ≤ (a :: l).getD k 0 := by
        rcases hge with h | h
        · omega
        · simpa using h
      have hxa : x ≤ a := by
        cases k with
        | zero => simpa using hge'
        | succ k =>
          have hk' : k < l.length := by simp at hk; omega
          have h4 : x ≤ l.getD k 0 := by simpa using hge'
          have h5 := h1 (l.getD k 0) (getD_mem hk')
          omega
      unfold insD
      rw [if_pos hxa, ih k x h2 (by simp at hk; omega) ?_ ?_]
      · simp
      · intro j hj hj2
        have := hlt (j + 1) (by omega) (by simp; omega)
        simpa using this
      · cases k with
        | zero => exact Or.inl rfl
        | succ k =>
          right
          simpa using hge'
def restsF (g : Nat → Int32) (y : Int32) : Nat → List Nat
  | 0 => []
  | n + 1 => if g (355 + 3 * n) = y then insD (restsF g y n) (nat g (356 + 3 * n)) else restsF g y n
theorem restsF_len {g : Nat → Int32} {y : Int32} : ∀ n, (restsF g y n).length ≤ n := by
  intro n
  induction n with
  | zero => exact Nat.le_refl _
  | succ n ih =>
    unfold restsF
    by_cases h : g (355 + 3 * n) = y
    · rw [if_pos h, insD_len]; omega
    · rw [if_neg h]; omega
theorem restsF_desc {g : Nat → Int32} {y : Int32} : ∀ n, desc (restsF g y n) := by
  intro n
  induction n with
  | zero => exact List.Pairwise.nil
  | succ n ih =>
    unfold restsF
    by_cases h : g (355 + 3 * n) = y
    · rw [if_pos h]; exact insD_desc ih
    · rw [if_neg h]; exact ih
def GD (g : Nat → Int32) : Prop := ∀ x, x < nat g 354 → isN g (356 + 3 * x) 1000
theorem restsF_lt {g : Nat → Int32} {y : Int32} (hD : GD g) : ∀ n, n ≤ nat g 354 → ∀ x, x ∈ restsF g y n → x < 1000 := by
  intro n
  induction n with
  | zero => intro _ x h; cases h
  | succ n ih =>
    intro hn x h
    unfold restsF at h
    by_cases h1 : g (355 + 3 * n) = y
    · rw [if_pos h1] at h
      rcases insD_mem h with rfl | h
      · exact (hD n (by omega)).2
      · exact ih (by omega) x h
    · rw [if_neg h1] at h
      exact ih (by omega) x h
def ArrR (H : AH) (k a : Nat) (l : List Nat) : Prop := ∀ j, j < l.length → gA H k a j = nI (l.getD j 0)
section Mo17
variable {G : Gl} {d m : Nat} {ma : Nat → Nat} {Qr : Option AV → AH → Prop} {Qx : String → Nat → AH → Prop} {H : AH}
theorem s_findsRests {y : Int32} (hd : 1 ≤ d) (hM : MO H m ma) (hB : GB (gA H 1068 (ma 68))) (hD : GD (gA H 1068 (ma 68)))
    (hQ : ∀ H', MU m ma [85] H H' → ArrR H' 1085 (ma 85) (restsF (gA H 1068 (ma 68)) y (nat (gA H 1068 (ma 68)) 354)) → Qr (some (vI (nI (restsF (gA H 1068 (ma 68)) y (nat (gA H 1068 (ma 68)) 354)).length))) H') : AMet G d 0 0 yX3_findsRests wX3_findsRests H [vR (some m), vI y] Qr Qx := by
  have e0 := hM.1
  obtain ⟨g, hg⟩ := ex_val (gA H 1068 (ma 68))
  rw [← hg] at hQ hD
  have hB' : GB g := by rw [hg]; exact hB
  obtain ⟨hN1, hN2⟩ := hB'.2.2.2.1
  obtain ⟨N, hN⟩ := ex_val (nat g 354)
  rw [← hN] at hN1 hN2 hQ
  refine AMet.of (M := mX3_findsRests) (maxL := 5) rfl rfl (Nat.le_of_ble_eq_true rfl) ?_
  show AW mX3_findsRests _ _ _ _ _ _ _ 0 [some (vR (some m)), some (vI y), none, none, none] []
  refine r_iconst (v := nI 0) dX3_findsRests_0 (by decide) ?_
  refine r_istore_n (i := 2) dX3_findsRests_1 rfl (Nat.le_of_ble_eq_true rfl) (by simp only [lset]; rfl) ?_
  refine r_iconst (v := nI 0) dX3_findsRests_2 (by decide) ?_
  refine r_istore_n (i := 3) dX3_findsRests_3 rfl (Nat.le_of_ble_eq_true rfl) (by simp only [lset]; rfl) ?_
  have loop : ∀ (k i : Nat) (H1 : AH) (o : Option AV), i + k = N → MU m ma [85] H H1 → ArrR H1 1085 (ma 85) (restsF g y i) → AW mX3_findsRests G d Qr Qx 0 0 H1 4 [some (vR (some m)), some (vI y), some (vI (nI (restsF g y i).length)), some (vI (nI i)), o] [] := by
    intro k
    induction k with
    | zero =>
      intro i H1 o hi hU hA
      have hM1 := hM.mf hU.1
      have e01 := hM1.1
      obtain ⟨e68a_1, e68b_1, e68c_1⟩ : gR H1 68 m = some (ma 68) ∧ kd H1 (ma 68) = 1068 ∧ ln H1 (ma 68) = 385 := hM1.2 68 (by decide)
      have g354 : gA H1 1068 (ma 68) 354 = nI N := by rw [hU.g68 (by decide), ← hg]; exact hN1
      rw [show N = i by omega] at hQ
      refine r_iload_n (i := 3) dX3_findsRests_4 rfl rfl ?_
      refine r_aload_n (i := 0) dX3_findsRests_5 rfl rfl ?_
      refine r_getR dX3_findsRests_6 fR_X3_7 (by first | assumption | (simp only [kd_sI, kd_sR, kd_sA, kd_sQ, kd_sL, kd_sD, ln_sI, ln_sR, ln_sA, ln_sQ, ln_sL, ln_sD, gI_sR, gI_sA, gI_sQ, gI_sL, gI_sD, gR_sI, gR_sA, gR_sQ, gR_sL, gR_sD, gA_sI, gA_sR, gA_sQ, gA_sL, gA_sD, gQ_sI, gQ_sR, gQ_sA, gQ_sL, gQ_sD, gL_sI, gL_sR, gL_sA, gL_sQ, gL_sD]; assumption) | simp [kd_sI, kd_sR, kd_sA, kd_sQ, kd_sL, kd_sD, ln_sI, ln_sR, ln_sA, ln_sQ, ln_sL, ln_sD, gI_sR, gI_sA, gI_sQ, gI_sL, gI_sD, gR_sI, gR_sA, gR_sQ, gR_sL, gR_sD, gA_sI, gA_sR, gA_sQ, gA_sL, gA_sD, gQ_sI, gQ_sR, gQ_sA, gQ_sL, gQ_sD, gL_sI, gL_sR, gL_sA, gL_sQ, gL_sD, kd_nO, kd_nA, *]) (by first | assumption | exact gI_sIs | exact gR_sRs | with_reducible rfl | (simp only [kd_sI, kd_sR, kd_sA, kd_sQ, kd_sL, kd_sD, ln_sI, ln_sR, ln_sA, ln_sQ, ln_sL, ln_sD, gI_sR, gI_sA, gI_sQ, gI_sL, gI_sD, gR_sI, gR_sA, gR_sQ, gR_sL, gR_sD, gA_sI, gA_sR, gA_sQ, gA_sL, gA_sD, gQ_sI, gQ_sR, gQ_sA, gQ_sL, gQ_sD, gL_sI, gL_sR, gL_sA, gL_sQ, gL_sD]; first | done | assumption | with_reducible rfl) | rfl) ?_
      refine r_sipush (v := nI 354) dX3_findsRests_9 (by decide) ?_
      refine r_iald dX3_findsRests_12 (by first | assumption | (simp only [kd_sI, kd_sR, kd_sA, kd_sQ, kd_sL, kd_sD, ln_sI, ln_sR, ln_sA, ln_sQ, ln_sL, ln_sD, gI_sR, gI_sA, gI_sQ, gI_sL, gI_sD, gR_sI, gR_sA, gR_sQ, gR_sL, gR_sD, gA_sI, gA_sR, gA_sQ, gA_sL, gA_sD, gQ_sI, gQ_sR, gQ_sA, gQ_sL, gQ_sD, gL_sI, gL_sR, gL_sA, gL_sQ, gL_sD]; assumption) | simp [kd_sI, kd_sR, kd_sA, kd_sQ, kd_sL, kd_sD, ln_sI, ln_sR, ln_sA, ln_sQ, ln_sL, ln_sD, gI_sR, gI_sA, gI_sQ, gI_sL, gI_sD, gR_sI, gR_sA, gR_sQ, gR_sL, gR_sD, gA_sI, gA_sR, gA_sQ, gA_sL, gA_sD, gQ_sI, gQ_sR, gQ_sA, gQ_sL, gQ_sD, gL_sI, gL_sR, gL_sA, gL_sQ, gL_sD, kd_nO, kd_nA, *]) (by first | decide | assumption) (by first | assumption | exact gI_sIs | exact gR_sRs | with_reducible rfl | (simp only [kd_sI, kd_sR, kd_sA, kd_sQ, kd_sL, kd_sD, ln_sI, ln_sR, ln_sA, ln_sQ, ln_sL, ln_sD, gI_sR, gI_sA, gI_sQ, gI_sL, gI_sD, gR_sI, gR_sA, gR_sQ, gR_sL, gR_sD, gA_sI, gA_sR, gA_sQ, gA_sL, gA_sD, gQ_sI, gQ_sR, gQ_sA, gQ_sL, gQ_sD, gL_sI, gL_sR, gL_sA, gL_sQ, gL_sD]; first | done | assumption | with_reducible rfl) | rfl) (by first | with_reducible rfl | assumption | (simp only [nI_add, pk_mul, nI_1]; with_reducible rfl)) (by first | assumption | omega) (by first | assumption | omega) (by first | assumption | exact gI_sIs | exact gR_sRs | with_reducible rfl | (simp only [kd_sI, kd_sR, kd_sA, kd_sQ, kd_sL, kd_sD, ln_sI, ln_sR, ln_sA, ln_sQ, ln_sL, ln_sD, gI_sR, gI_sA, gI_sQ, gI_sL, gI_sD, gR_sI, gR_sA, gR_sQ, gR_sL, gR_sD, gA_sI, gA_sR, gA_sQ, gA_sL, gA_sD, gQ_sI, gQ_sR, gQ_sA, gQ_sL, gQ_sD, gL_sI, gL_sR, gL_sA, gL_sQ, gL_sD]; first | done | assumption | with_reducible rfl) | rfl) ?_
      refine r_icmp_ge (tgt := 96) dX3_findsRests_13 (by decide) (fun h13 => ?_) (fun h13 => ?_)
      · refine r_iload_n (i := 2) dX3_findsRests_96 rfl rfl ?_
        refine r_ireturn dX3_findsRests_97 rfl (by first | rfl | assumption | exact vp_nar_int _ | exact pk_nc _) ?_
        exact hQ H1 hU hA
      · exact absurd (nI_le (by omega) (by omega)) h13
    | succ k ih =>
      intro i H1 o hi hU hA
      have hM1 := hM.mf hU.1
      have e01 := hM1.1
      obtain ⟨e68a_1, e68b_1, e68c_1⟩ : gR H1 68 m = some (ma 68) ∧ kd H1 (ma 68) = 1068 ∧ ln H1 (ma 68) = 385 := hM1.2 68 (by decide)
      obtain ⟨e85a_1, e85b_1, e85c_1⟩ : gR H1 85 m = some (ma 85) ∧ kd H1 (ma 85) = 1085 ∧ ln H1 (ma 85) = 10 := hM1.2 85 (by decide)
      have hg1 : gA H1 1068 (ma 68) = g := by rw [hg]; exact congrFun (hU.g68 (by decide)) _
      have g354 : gA H1 1068 (ma 68) 354 = nI N := by rw [hg1]; exact hN1
      obtain ⟨x1, x2⟩ := hD i (by rw [← hN]; omega)
      have nx := fun H2 o2 h1 h2 => ih (i + 1) H2 o2 (by omega) h1 h2
      have hlen := restsF_len (g := g) (y := y) i
      have hdesc := restsF_desc (g := g) (y := y) i
      have hb := restsF_lt (y := y) hD i (by rw [← hN]; omega)
      unfold restsF at nx
      refine r_iload_n (i := 3) dX3_findsRests_4 rfl rfl ?_
      refine r_aload_n (i := 0) dX3_findsRests_5 rfl rfl ?_
      refine r_getR dX3_findsRests_6 fR_X3_7 (by first | assumption | (simp only [kd_sI, kd_sR, kd_sA, kd_sQ, kd_sL, kd_sD, ln_sI, ln_sR, ln_sA, ln_sQ, ln_sL, ln_sD, gI_sR, gI_sA, gI_sQ, gI_sL, gI_sD, gR_sI, gR_sA, gR_sQ, gR_sL, gR_sD, gA_sI, gA_sR, gA_sQ, gA_sL, gA_sD, gQ_sI, gQ_sR, gQ_sA, gQ_sL, gQ_sD, gL_sI, gL_sR, gL_sA, gL_sQ, gL_sD]; assumption) | simp [kd_sI, kd_sR, kd_sA, kd_sQ, kd_sL, kd_sD, ln_sI, ln_sR, ln_sA, ln_sQ, ln_sL, ln_sD, gI_sR, gI_sA, gI_sQ, gI_sL, gI_sD, gR_sI, gR_sA, gR_sQ, gR_sL, gR_sD, gA_sI, gA_sR, gA_sQ, gA_sL, gA_sD, gQ_sI, gQ_sR, gQ_sA, gQ_sL, gQ_sD, gL_sI, gL_sR, gL_sA, gL_sQ, gL_sD, kd_nO, kd_nA, *]) (by first | assumption | exact gI_sIs | exact gR_sRs | with_reducible rfl | (simp only [kd_sI, kd_sR, kd_sA, kd_sQ, kd_sL, kd_sD, ln_sI, ln_sR, ln_sA, ln_sQ, ln_sL, ln_sD, gI_sR, gI_sA, gI_sQ, gI_sL, gI_sD, gR_sI, gR_sA, gR_sQ, gR_sL, gR_sD, gA_sI, gA_sR, gA_sQ, gA_sL, gA_sD, gQ_sI, gQ_sR, gQ_sA, gQ_sL, gQ_sD, gL_sI, gL_sR, gL_sA, gL_sQ, gL_sD]; first | done | assumption | with_reducible rfl) | rfl) ?_
      refine r_sipush (v := nI 354) dX3_findsRests_9 (by decide) ?_
      refine r_iald dX3_findsRests_12 (by first | assumption | (simp only [kd_sI, kd_sR, kd_sA, kd_sQ, kd_sL, kd_sD, ln_sI, ln_sR, ln_sA, ln_sQ, ln_sL, ln_sD, gI_sR, gI_sA, gI_sQ, gI_sL, gI_sD, gR_sI, gR_sA, gR_sQ, gR_sL, gR_sD, gA_sI, gA_sR, gA_sQ, gA_sL, gA_sD, gQ_sI, gQ_sR, gQ_sA, gQ_sL, gQ_sD, gL_sI, gL_sR, gL_sA, gL_sQ, gL_sD]; assumption) | simp [kd_sI, kd_sR, kd_sA, kd_sQ, kd_sL, kd_sD, ln_sI, ln_sR, ln_sA, ln_sQ, ln_sL, ln_sD, gI_sR, gI_sA, gI_sQ, gI_sL, gI_sD, gR_sI, gR_sA, gR_sQ, gR_sL, gR_sD, gA_sI, gA_sR, gA_sQ, gA_sL, gA_sD, gQ_sI, gQ_sR, gQ_sA, gQ_sL, gQ_sD, gL_sI, gL_sR, gL_sA, gL_sQ, gL_sD, kd_nO, kd_nA, *]) (by first | decide | assumption) (by first | assumption | exact gI_sIs | exact gR_sRs | with_reducible rfl | (simp only [kd_sI, kd_sR, kd_sA, kd_sQ, kd_sL, kd_sD, ln_sI, ln_sR, ln_sA, ln_sQ, ln_sL, ln_sD, gI_sR, gI_sA, gI_sQ, gI_sL, gI_sD, gR_sI, gR_sA, gR_sQ, gR_sL, gR_sD, gA_sI, gA_sR, gA_sQ, gA_sL, gA_sD, gQ_sI, gQ_sR, gQ_sA, gQ_sL, gQ_sD, gL_sI, gL_sR, gL_sA, gL_sQ, gL_sD]; first | done | assumption | with_reducible rfl) | rfl) (by first | with_reducible rfl | assumption | (simp only [nI_add, pk_mul, nI_1]; with_reducible rfl)) (by first | assumption | omega) (by first | assumption | omega) (by first | assumption | exact gI_sIs | exact gR_sRs | with_reducible rfl | (simp only [kd_sI, kd_sR, kd_sA, kd_sQ, kd_sL, kd_sD, ln_sI, ln_sR, ln_sA, ln_sQ, ln_sL, ln_sD, gI_sR, gI_sA, gI_sQ, gI_sL, gI_sD, gR_sI, gR_sA, gR_sQ, gR_sL, gR_sD, gA_sI, gA_sR, gA_sQ, gA_sL, gA_sD, gQ_sI, gQ_sR, gQ_sA, gQ_sL, gQ_sD, gL_sI, gL_sR, gL_sA, gL_sQ, gL_sD]; first | done | assumption | with_reducible rfl) | rfl) ?_
      refine r_icmp_ge (tgt := 96) dX3_findsRests_13 (by decide) (fun h13 => ?_) (fun h13 => ?_)
      · exact absurd h13 (nI_ge (by omega) (by omega))
      · refine r_aload_n (i := 0) dX3_findsRests_16 rfl rfl ?_
        refine r_iload_n (i := 3) dX3_findsRests_17 rfl rfl ?_
        refine r_iconst (v := nI 0) dX3_findsRests_18 (by decide) ?_
        refine r_callV (As := [_, _]) (mc' := 0) (ms' := 0) dX3_findsRests_19 k_X3_196 rfl (by first | assumption | (simp only [kd_sI, kd_sR, kd_sA, kd_sQ, kd_sL, kd_sD, ln_sI, ln_sR, ln_sA, ln_sQ, ln_sL, ln_sD, gI_sR, gI_sA, gI_sQ, gI_sL, gI_sD, gR_sI, gR_sA, gR_sQ, gR_sL, gR_sD, gA_sI, gA_sR, gA_sQ, gA_sL, gA_sD, gQ_sI, gQ_sR, gQ_sA, gQ_sL, gQ_sD, gL_sI, gL_sR, gL_sA, gL_sQ, gL_sD]; assumption) | simp [kd_sI, kd_sR, kd_sA, kd_sQ, kd_sL, kd_sD, ln_sI, ln_sR, ln_sA, ln_sQ, ln_sL, ln_sD, gI_sR, gI_sA, gI_sQ, gI_sL, gI_sD, gR_sI, gR_sA, gR_sQ, gR_sL, gR_sD, gA_sI, gA_sR, gA_sQ, gA_sL, gA_sD, gQ_sI, gQ_sR, gQ_sA, gQ_sL, gQ_sD, gL_sI, gL_sR, gL_sA, gL_sQ, gL_sD, kd_nO, kd_nA, *]) (T := TX3) (N := 27) rfl (by first | assumption | omega) (by first | assumption | omega) (by first | assumption | omega) (Nat.le_of_ble_eq_true rfl) ?_
        refine s_drumTold hM1 (by omega) ?_
        rw [hg1, show 355 + 3 * i + 0 = 355 + 3 * i by omega]
        refine r_iload_n (i := 1) dX3_findsRests_22 rfl rfl ?_
        refine r_icmp_ne (tgt := 90) dX3_findsRests_23 (by decide) (fun h23 => ?_) (fun h23 => ?_)
        · simp only [if_neg h23] at nx
          refine r_iinc dX3_findsRests_90 rfl (by first | exact nI_1 _ | rfl) (by simp only [lset]; rfl) ?_
          refine r_goto (tgt := 4) dX3_findsRests_93 (by decide) ?_
          exact nx H1 _ hU hA
        · simp only [if_pos h23] at nx
          obtain ⟨l, hl⟩ := ex_val (restsF g y i)
          rw [← hl] at nx hA hlen hdesc hb
          rw [← hl]
          obtain ⟨x, hx⟩ := ex_val (nat g (356 + 3 * i))
          rw [← hx] at nx x1 x2
          have inner : ∀ (q : Nat) (H2 : AH), q ≤ l.length → MU m ma [85] H H2 → (∀ j, j < q → gA H2 1085 (ma 85) j = nI (l.getD j 0)) → (∀ j, q ≤ j → j < l.length → gA H2 1085 (ma 85) (j + 1) = nI (l.getD j 0) ∧ l.getD j 0 < x) → AW mX3_findsRests G d Qr Qx 0 0 H2 29 [some (vR (some m)), some (vI y), some (vI (nI l.length)), some (vI (nI i)), some (vI (nI q))] [] := by
            intro q
            induction q with
            | zero =>
              intro H2 hq hU2 hlo hhi
              have hM2 := hM.mf hU2.1
              have e02 := hM2.1
              obtain ⟨e68a_2, e68b_2, e68c_2⟩ : gR H2 68 m = some (ma 68) ∧ kd H2 (ma 68) = 1068 ∧ ln H2 (ma 68) = 385 := hM2.2 68 (by decide)
              obtain ⟨e85a_2, e85b_2, e85c_2⟩ : gR H2 85 m = some (ma 85) ∧ kd H2 (ma 85) = 1085 ∧ ln H2 (ma 85) = 10 := hM2.2 85 (by decide)
              have hg2 : gA H2 1068 (ma 68) = g := by rw [hg]; exact congrFun (hU2.g68 (by decide)) _
              have hins := insD_at l 0 x hdesc (by omega) (fun j h1 h2 => (hhi j h1 h2).2) (Or.inl rfl)
              refine r_iload dX3_findsRests_29 rfl ?_
              refine r_if_le (tgt := 74) dX3_findsRests_31 (by decide) (fun h31 => ?_) (fun h31 => ?_)
              · refine r_aload_n (i := 0) dX3_findsRests_74 rfl rfl ?_
                refine r_getR dX3_findsRests_75 fR_X3_41 (by first | assumption | (simp only [kd_sI, kd_sR, kd_sA, kd_sQ, kd_sL, kd_sD, ln_sI, ln_sR, ln_sA, ln_sQ, ln_sL, ln_sD, gI_sR, gI_sA, gI_sQ, gI_sL, gI_sD, gR_sI, gR_sA, gR_sQ, gR_sL, gR_sD, gA_sI, gA_sR, gA_sQ, gA_sL, gA_sD, gQ_sI, gQ_sR, gQ_sA, gQ_sL, gQ_sD, gL_sI, gL_sR, gL_sA, gL_sQ, gL_sD]; assumption) | simp [kd_sI, kd_sR, kd_sA, kd_sQ, kd_sL, kd_sD, ln_sI, ln_sR, ln_sA, ln_sQ, ln_sL, ln_sD, gI_sR, gI_sA, gI_sQ, gI_sL, gI_sD, gR_sI, gR_sA, gR_sQ, gR_sL, gR_sD, gA_sI, gA_sR, gA_sQ, gA_sL, gA_sD, gQ_sI, gQ_sR, gQ_sA, gQ_sL, gQ_sD, gL_sI, gL_sR, gL_sA, gL_sQ, gL_sD, kd_nO, kd_nA, *]) (by first | assumption | exact gI_sIs | exact gR_sRs | with_reducible rfl | (simp only [kd_sI, kd_sR, kd_sA, kd_sQ, kd_sL, kd_sD, ln_sI, ln_sR, ln_sA, ln_sQ, ln_sL, ln_sD, gI_sR, gI_sA, gI_sQ, gI_sL, gI_sD, gR_sI, gR_sA, gR_sQ, gR_sL, gR_sD, gA_sI, gA_sR, gA_sQ, gA_sL, gA_sD, gQ_sI, gQ_sR, gQ_sA, gQ_sL, gQ_sD, gL_sI, gL_sR, gL_sA, gL_sQ, gL_sD]; first | done | assumption | with_reducible rfl) | rfl) ?_
                refine r_iload dX3_findsRests_78 rfl ?_
                refine r_aload_n (i := 0) dX3_findsRests_80 rfl rfl ?_
                refine r_iload_n (i := 3) dX3_findsRests_81 rfl rfl ?_
                refine r_iconst (v := nI 1) dX3_findsRests_82 (by decide) ?_
                refine r_callV (As := [_, _]) (mc' := 0) (ms' := 0) dX3_findsRests_83 k_X3_196 rfl (by first | assumption | (simp only [kd_sI, kd_sR, kd_sA, kd_sQ, kd_sL, kd_sD, ln_sI, ln_sR, ln_sA, ln_sQ, ln_sL, ln_sD, gI_sR, gI_sA, gI_sQ, gI_sL, gI_sD, gR_sI, gR_sA, gR_sQ, gR_sL, gR_sD, gA_sI, gA_sR, gA_sQ, gA_sL, gA_sD, gQ_sI, gQ_sR, gQ_sA, gQ_sL, gQ_sD, gL_sI, gL_sR, gL_sA, gL_sQ, gL_sD]; assumption) | simp [kd_sI, kd_sR, kd_sA, kd_sQ, kd_sL, kd_sD, ln_sI, ln_sR, ln_sA, ln_sQ, ln_sL, ln_sD, gI_sR, gI_sA, gI_sQ, gI_sL, gI_sD, gR_sI, gR_sA, gR_sQ, gR_sL, gR_sD, gA_sI, gA_sR, gA_sQ, gA_sL, gA_sD, gQ_sI, gQ_sR, gQ_sA, gQ_sL, gQ_sD, gL_sI, gL_sR, gL_sA, gL_sQ, gL_sD, kd_nO, kd_nA, *]) (T := TX3) (N := 27) rfl (by first | assumption | omega) (by first | assumption | omega) (by first | assumption | omega) (Nat.le_of_ble_eq_true rfl) ?_
                refine s_drumTold hM2 (by omega) ?_
                rw [hg2, show 355 + 3 * i + 1 = 356 + 3 * i by omega, x1]
                refine r_iast dX3_findsRests_86 (by first | assumption | (simp only [kd_sI, kd_sR, kd_sA, kd_sQ, kd_sL, kd_sD, ln_sI, ln_sR, ln_sA, ln_sQ, ln_sL, ln_sD, gI_sR, gI_sA, gI_sQ, gI_sL, gI_sD, gR_sI, gR_sA, gR_sQ, gR_sL, gR_sD, gA_sI, gA_sR, gA_sQ, gA_sL, gA_sD, gQ_sI, gQ_sR, gQ_sA, gQ_sL, gQ_sD, gL_sI, gL_sR, gL_sA, gL_sQ, gL_sD]; assumption) | simp [kd_sI, kd_sR, kd_sA, kd_sQ, kd_sL, kd_sD, ln_sI, ln_sR, ln_sA, ln_sQ, ln_sL, ln_sD, gI_sR, gI_sA, gI_sQ, gI_sL, gI_sD, gR_sI, gR_sA, gR_sQ, gR_sL, gR_sD, gA_sI, gA_sR, gA_sQ, gA_sL, gA_sD, gQ_sI, gQ_sR, gQ_sA, gQ_sL, gQ_sD, gL_sI, gL_sR, gL_sA, gL_sQ, gL_sD, kd_nO, kd_nA, *]) (by first | decide | assumption) (by first | assumption | exact gI_sIs | exact gR_sRs | with_reducible rfl | (simp only [kd_sI, kd_sR, kd_sA, kd_sQ, kd_sL, kd_sD, ln_sI, ln_sR, ln_sA, ln_sQ, ln_sL, ln_sD, gI_sR, gI_sA, gI_sQ, gI_sL, gI_sD, gR_sI, gR_sA, gR_sQ, gR_sL, gR_sD, gA_sI, gA_sR, gA_sQ, gA_sL, gA_sD, gQ_sI, gQ_sR, gQ_sA, gQ_sL, gQ_sD, gL_sI, gL_sR, gL_sA, gL_sQ, gL_sD]; first | done | assumption | with_reducible rfl) | rfl) (by first | with_reducible rfl | assumption | (simp only [nI_add, pk_mul, nI_1]; with_reducible rfl)) (by first | assumption | omega) (by first | assumption | omega) ?_
                refine r_iinc dX3_findsRests_87 rfl (by first | exact nI_1 _ | rfl) (by simp only [lset]; rfl) ?_
                refine r_iinc dX3_findsRests_90 rfl (by first | exact nI_1 _ | rfl) (by simp only [lset]; rfl) ?_
                refine r_goto (tgt := 4) dX3_findsRests_93 (by decide) ?_
                rw [insD_len] at nx
                refine nx _ _ (hU2.sA (f := 85) (Or.inl (by decide)) (by decide) (by decide)) ?_
                rw [hins]
                intro j hj
                rw [gA_sAs]
                unfold upd
                by_cases h0 : j = 0
                · rw [if_pos h0, h0]
                  simp
                · rw [if_neg h0]
                  obtain ⟨j, rfl⟩ : ∃ j', j = j' + 1 := ⟨j - 1, by omega⟩
                  have hj' : j < l.length := by simp at hj; omega
                  rw [(hhi j (by omega) hj').1]
                  simp
              · exact absurd (by decide) h31
            | succ q ihq =>
              intro H2 hq hU2 hlo hhi
              have hM2 := hM.mf hU2.1
              have e02 := hM2.1
              obtain ⟨e68a_2, e68b_2, e68c_2⟩ : gR H2 68 m = some (ma 68) ∧ kd H2 (ma 68) = 1068 ∧ ln H2 (ma 68) = 385 := hM2.2 68 (by decide)
              obtain ⟨e85a_2, e85b_2, e85c_2⟩ : gR H2 85 m = some (ma 85) ∧ kd H2 (ma 85) = 1085 ∧ ln H2 (ma 85) = 10 := hM2.2 85 (by decide)
              have hg2 : gA H2 1068 (ma 68) = g := by rw [hg]; exact congrFun (hU2.g68 (by decide)) _
              have e1 : nI (q + 1) - nI 1 = nI q := by rw [pk_sub (by omega), Nat.add_sub_cancel]
              have hlq := hlo q (by omega)
              refine r_iload dX3_findsRests_29 rfl ?_
              refine r_if_le (tgt := 74) dX3_findsRests_31 (by decide) (fun h31 => ?_) (fun h31 => ?_)
              · exact absurd h31 (Int32.not_le.mpr (by rw [← nI_0]; exact nI_lt (by omega) (by omega)))
              · refine r_aload_n (i := 0) dX3_findsRests_34 rfl rfl ?_
                refine r_getR dX3_findsRests_35 fR_X3_41 (by first | assumption | (simp only [kd_sI, kd_sR, kd_sA, kd_sQ, kd_sL, kd_sD, ln_sI, ln_sR, ln_sA, ln_sQ, ln_sL, ln_sD, gI_sR, gI_sA, gI_sQ, gI_sL, gI_sD, gR_sI, gR_sA, gR_sQ, gR_sL, gR_sD, gA_sI, gA_sR, gA_sQ, gA_sL, gA_sD, gQ_sI, gQ_sR, gQ_sA, gQ_sL, gQ_sD, gL_sI, gL_sR, gL_sA, gL_sQ, gL_sD]; assumption) | simp [kd_sI, kd_sR, kd_sA, kd_sQ, kd_sL, kd_sD, ln_sI, ln_sR, ln_sA, ln_sQ, ln_sL, ln_sD, gI_sR, gI_sA, gI_sQ, gI_sL, gI_sD, gR_sI, gR_sA, gR_sQ, gR_sL, gR_sD, gA_sI, gA_sR, gA_sQ, gA_sL, gA_sD, gQ_sI, gQ_sR, gQ_sA, gQ_sL, gQ_sD, gL_sI, gL_sR, gL_sA, gL_sQ, gL_sD, kd_nO, kd_nA, *]) (by first | assumption | exact gI_sIs | exact gR_sRs | with_reducible rfl | (simp only [kd_sI, kd_sR, kd_sA, kd_sQ, kd_sL, kd_sD, ln_sI, ln_sR, ln_sA, ln_sQ, ln_sL, ln_sD, gI_sR, gI_sA, gI_sQ, gI_sL, gI_sD, gR_sI, gR_sA, gR_sQ, gR_sL, gR_sD, gA_sI, gA_sR, gA_sQ, gA_sL, gA_sD, gQ_sI, gQ_sR, gQ_sA, gQ_sL, gQ_sD, gL_sI, gL_sR, gL_sA, gL_sQ, gL_sD]; first | done | assumption | with_reducible rfl) | rfl) ?_
                refine r_iload dX3_findsRests_38 rfl ?_
                refine r_iconst (v := nI 1) dX3_findsRests_40 (by decide) ?_
                refine r_isub dX3_findsRests_41 ?_
                rw [e1]
                refine r_iald dX3_findsRests_42 (by first | assumption | (simp only [kd_sI, kd_sR, kd_sA, kd_sQ, kd_sL, kd_sD, ln_sI, ln_sR, ln_sA, ln_sQ, ln_sL, ln_sD, gI_sR, gI_sA, gI_sQ, gI_sL, gI_sD, gR_sI, gR_sA, gR_sQ, gR_sL, gR_sD, gA_sI, gA_sR, gA_sQ, gA_sL, gA_sD, gQ_sI, gQ_sR, gQ_sA, gQ_sL, gQ_sD, gL_sI, gL_sR, gL_sA, gL_sQ, gL_sD]; assumption) | simp [kd_sI, kd_sR, kd_sA, kd_sQ, kd_sL, kd_sD, ln_sI, ln_sR, ln_sA, ln_sQ, ln_sL, ln_sD, gI_sR, gI_sA, gI_sQ, gI_sL, gI_sD, gR_sI, gR_sA, gR_sQ, gR_sL, gR_sD, gA_sI, gA_sR, gA_sQ, gA_sL, gA_sD, gQ_sI, gQ_sR, gQ_sA, gQ_sL, gQ_sD, gL_sI, gL_sR, gL_sA, gL_sQ, gL_sD, kd_nO, kd_nA, *]) (by first | decide | assumption) (by first | assumption | exact gI_sIs | exact gR_sRs | with_reducible rfl | (simp only [kd_sI, kd_sR, kd_sA, kd_sQ, kd_sL, kd_sD, ln_sI, ln_sR, ln_sA, ln_sQ, ln_sL, ln_sD, gI_sR, gI_sA, gI_sQ, gI_sL, gI_sD, gR_sI, gR_sA, gR_sQ, gR_sL, gR_sD, gA_sI, gA_sR, gA_sQ, gA_sL, gA_sD, gQ_sI, gQ_sR, gQ_sA, gQ_sL, gQ_sD, gL_sI, gL_sR, gL_sA, gL_sQ, gL_sD]; first | done | assumption | with_reducible rfl) | rfl) (by first | with_reducible rfl | assumption | (simp only [nI_add, pk_mul, nI_1]; with_reducible rfl)) (by first | assumption | omega) (by first | assumption | omega) (by first | assumption | exact gI_sIs | exact gR_sRs | with_reducible rfl | (simp only [kd_sI, kd_sR, kd_sA, kd_sQ, kd_sL, kd_sD, ln_sI, ln_sR, ln_sA, ln_sQ, ln_sL, ln_sD, gI_sR, gI_sA, gI_sQ, gI_sL, gI_sD, gR_sI, gR_sA, gR_sQ, gR_sL, gR_sD, gA_sI, gA_sR, gA_sQ, gA_sL, gA_sD, gQ_sI, gQ_sR, gQ_sA, gQ_sL, gQ_sD, gL_sI, gL_sR, gL_sA, gL_sQ, gL_sD]; first | done | assumption | with_reducible rfl) | rfl) ?_
                refine r_aload_n (i := 0) dX3_findsRests_43 rfl rfl ?_
                refine r_iload_n (i := 3) dX3_findsRests_44 rfl rfl ?_
                refine r_iconst (v := nI 1) dX3_findsRests_45 (by decide) ?_
                refine r_callV (As := [_, _]) (mc' := 0) (ms' := 0) dX3_findsRests_46 k_X3_196 rfl (by first | assumption | (simp only [kd_sI, kd_sR, kd_sA, kd_sQ, kd_sL, kd_sD, ln_sI, ln_sR, ln_sA, ln_sQ, ln_sL, ln_sD, gI_sR, gI_sA, gI_sQ, gI_sL, gI_sD, gR_sI, gR_sA, gR_sQ, gR_sL, gR_sD, gA_sI, gA_sR, gA_sQ, gA_sL, gA_sD, gQ_sI, gQ_sR, gQ_sA, gQ_sL, gQ_sD, gL_sI, gL_sR, gL_sA, gL_sQ, gL_sD]; assumption) | simp [kd_sI, kd_sR, kd_sA, kd_sQ, kd_sL, kd_sD, ln_sI, ln_sR, ln_sA, ln_sQ, ln_sL, ln_sD, gI_sR, gI_sA, gI_sQ, gI_sL, gI_sD, gR_sI, gR_sA, gR_sQ, gR_sL, gR_sD, gA_sI, gA_sR, gA_sQ, gA_sL, gA_sD, gQ_sI, gQ_sR, gQ_sA, gQ_sL, gQ_sD, gL_sI, gL_sR, gL_sA, gL_sQ, gL_sD, kd_nO, kd_nA, *]) (T := TX3) (N := 27) rfl (by first | assumption | omega) (by first | assumption | omega) (by first | assumption | omega) (Nat.le_of_ble_eq_true rfl) ?_
                refine s_drumTold hM2 (by omega) ?_
                rw [hg2, show 355 + 3 * i + 1 = 356 + 3 * i by omega, x1]
                refine r_icmp_ge (tgt := 74) dX3_findsRests_49 (by decide) (fun h49 => ?_) (fun h49 => ?_)
                · have hge : x ≤ l.getD q 0 := Nat.le_of_not_lt (fun hh => absurd h49 (Int32.not_le.mpr (nI_lt hh (by omega))))
                  have hins := insD_at l (q + 1) x hdesc (by omega) (fun j h1 h2 => (hhi j h1 h2).2) (Or.inr hge)
                  refine r_aload_n (i := 0) dX3_findsRests_74 rfl rfl ?_
                  refine r_getR dX3_findsRests_75 fR_X3_41 (by first | assumption | (simp only [kd_sI, kd_sR, kd_sA, kd_sQ, kd_sL, kd_sD, ln_sI, ln_sR, ln_sA, ln_sQ, ln_sL, ln_sD, gI_sR, gI_sA, gI_sQ, gI_sL, gI_sD, gR_sI, gR_sA, gR_sQ, gR_sL, gR_sD, gA_sI, gA_sR, gA_sQ, gA_sL, gA_sD, gQ_sI, gQ_sR, gQ_sA, gQ_sL, gQ_sD, gL_sI, gL_sR, gL_sA, gL_sQ, gL_sD]; assumption) | simp [kd_sI, kd_sR, kd_sA, kd_sQ, kd_sL, kd_sD, ln_sI, ln_sR, ln_sA, ln_sQ, ln_sL, ln_sD, gI_sR, gI_sA, gI_sQ, gI_sL, gI_sD, gR_sI, gR_sA, gR_sQ, gR_sL, gR_sD, gA_sI, gA_sR, gA_sQ, gA_sL, gA_sD, gQ_sI, gQ_sR, gQ_sA, gQ_sL, gQ_sD, gL_sI, gL_sR, gL_sA, gL_sQ, gL_sD, kd_nO, kd_nA, *]) (by first | assumption | exact gI_sIs | exact gR_sRs | with_reducible rfl | (simp only [kd_sI, kd_sR, kd_sA, kd_sQ, kd_sL, kd_sD, ln_sI, ln_sR, ln_sA, ln_sQ, ln_sL, ln_sD, gI_sR, gI_sA, gI_sQ, gI_sL, gI_sD, gR_sI, gR_sA, gR_sQ, gR_sL, gR_sD, gA_sI, gA_sR, gA_sQ, gA_sL, gA_sD, gQ_sI, gQ_sR, gQ_sA, gQ_sL, gQ_sD, gL_sI, gL_sR, gL_sA, gL_sQ, gL_sD]; first | done | assumption | with_reducible rfl) | rfl) ?_
                  refine r_iload dX3_findsRests_78 rfl ?_
                  refine r_aload_n (i := 0) dX3_findsRests_80 rfl rfl ?_
                  refine r_iload_n (i := 3) dX3_findsRests_81 rfl rfl ?_
                  refine r_iconst (v := nI 1) dX3_findsRests_82 (by decide) ?_
                  refine r_callV (As := [_, _]) (mc' := 0) (ms' := 0) dX3_findsRests_83 k_X3_196 rfl (by first | assumption | (simp only [kd_sI, kd_sR, kd_sA, kd_sQ, kd_sL, kd_sD, ln_sI, ln_sR, ln_sA, ln_sQ, ln_sL, ln_sD, gI_sR, gI_sA, gI_sQ, gI_sL, gI_sD, gR_sI, gR_sA, gR_sQ, gR_sL, gR_sD, gA_sI, gA_sR, gA_sQ, gA_sL, gA_sD, gQ_sI, gQ_sR, gQ_sA, gQ_sL, gQ_sD, gL_sI, gL_sR, gL_sA, gL_sQ, gL_sD]; assumption) | simp [kd_sI, kd_sR, kd_sA, kd_sQ, kd_sL, kd_sD, ln_sI, ln_sR, ln_sA, ln_sQ, ln_sL, ln_sD, gI_sR, gI_sA, gI_sQ, gI_sL, gI_sD, gR_sI, gR_sA, gR_sQ, gR_sL, gR_sD, gA_sI, gA_sR, gA_sQ, gA_sL, gA_sD, gQ_sI, gQ_sR, gQ_sA, gQ_sL, gQ_sD, gL_sI, gL_sR, gL_sA, gL_sQ, gL_sD, kd_nO, kd_nA, *]) (T := TX3) (N := 27) rfl (by first | assumption | omega) (by first | assumption | omega) (by first | assumption | omega) (Nat.le_of_ble_eq_true rfl) ?_
                  refine s_drumTold hM2 (by omega) ?_
                  rw [hg2, show 355 + 3 * i + 1 = 356 + 3 * i by omega, x1]
                  refine r_iast dX3_findsRests_86 (by first | assumption | (simp only [kd_sI, kd_sR, kd_sA, kd_sQ, kd_sL, kd_sD, ln_sI, ln_sR, ln_sA, ln_sQ, ln_sL, ln_sD, gI_sR, gI_sA, gI_sQ, gI_sL, gI_sD, gR_sI, gR_sA, gR_sQ, gR_sL, gR_sD, gA_sI, gA_sR, gA_sQ, gA_sL, gA_sD, gQ_sI, gQ_sR, gQ_sA, gQ_sL, gQ_sD, gL_sI, gL_sR, gL_sA, gL_sQ, gL_sD]; assumption) | simp [kd_sI, kd_sR, kd_sA, kd_sQ, kd_sL, kd_sD, ln_sI, ln_sR, ln_sA, ln_sQ, ln_sL, ln_sD, gI_sR, gI_sA, gI_sQ, gI_sL, gI_sD, gR_sI, gR_sA, gR_sQ, gR_sL, gR_sD, gA_sI, gA_sR, gA_sQ, gA_sL, gA_sD, gQ_sI, gQ_sR, gQ_sA, gQ_sL, gQ_sD, gL_sI, gL_sR, gL_sA, gL_sQ, gL_sD, kd_nO, kd_nA, *]) (by first | decide | assumption) (by first | assumption | exact gI_sIs | exact gR_sRs | with_reducible rfl | (simp only [kd_sI, kd_sR, kd_sA, kd_sQ, kd_sL, kd_sD, ln_sI, ln_sR, ln_sA, ln_sQ, ln_sL, ln_sD, gI_sR, gI_sA, gI_sQ, gI_sL, gI_sD, gR_sI, gR_sA, gR_sQ, gR_sL, gR_sD, gA_sI, gA_sR, gA_sQ, gA_sL, gA_sD, gQ_sI, gQ_sR, gQ_sA, gQ_sL, gQ_sD, gL_sI, gL_sR, gL_sA, gL_sQ, gL_sD]; first | done | assumption | with_reducible rfl) | rfl) (by first | with_reducible rfl | assumption | (simp only [nI_add, pk_mul, nI_1]; with_reducible rfl)) (by first | assumption | omega) (by first | assumption | omega) ?_
                  refine r_iinc dX3_findsRests_87 rfl (by first | exact nI_1 _ | rfl) (by simp only [lset]; rfl) ?_
                  refine r_iinc dX3_findsRests_90 rfl (by first | exact nI_1 _ | rfl) (by simp only [lset]; rfl) ?_
                  refine r_goto (tgt := 4) dX3_findsRests_93 (by decide) ?_
                  rw [insD_len] at nx
                  refine nx _ _ (hU2.sA (f := 85) (Or.inl (by decide)) (by decide) (by decide)) ?_
                  rw [hins]
                  intro j hj
                  rw [gA_sAs]
                  unfold upd
                  have hj' : j < l.length + 1 := by
                    simp at hj
                    omega
                  have htl : (l.take (q + 1)).length = q + 1 := by rw [List.length_take]; omega
                  by_cases h0 : j = q + 1
                  · rw [if_pos h0, h0]
                    simp only [List.getD_eq_getElem?_getD]
                    rw [List.getElem?_append_right (by omega), htl]
                    simp
                  · rw [if_neg h0]
                    by_cases h1 : j < q + 1
                    · rw [hlo j h1]
                      simp only [List.getD_eq_getElem?_getD]
                      rw [List.getElem?_append_left (by omega), List.getElem?_take, if_pos h1]
                    · obtain ⟨j, rfl⟩ : ∃ j', j = j' + 1 := ⟨j - 1, by omega⟩
                      rw [(hhi j (by omega) (by omega)).1]
                      simp only [List.getD_eq_getElem?_getD]
                      rw [List.getElem?_append_right (by omega), htl, show j + 1 - (q + 1) = (j - (q + 1)) + 1 by omega, List.getElem?_cons_succ, List.getElem?_drop, show q + 1 + (j - (q + 1)) = j by omega]
                · have hlt : l.getD q 0 < x := Nat.lt_of_not_le (fun hh => h49 (nI_le hh (by have := hb _ (getD_mem (show q < l.length by omega)); omega)))
                  refine r_aload_n (i := 0) dX3_findsRests_52 rfl rfl ?_
                  refine r_getR dX3_findsRests_53 fR_X3_41 (by first | assumption | (simp only [kd_sI, kd_sR, kd_sA, kd_sQ, kd_sL, kd_sD, ln_sI, ln_sR, ln_sA, ln_sQ, ln_sL, ln_sD, gI_sR, gI_sA, gI_sQ, gI_sL, gI_sD, gR_sI, gR_sA, gR_sQ, gR_sL, gR_sD, gA_sI, gA_sR, gA_sQ, gA_sL, gA_sD, gQ_sI, gQ_sR, gQ_sA, gQ_sL, gQ_sD, gL_sI, gL_sR, gL_sA, gL_sQ, gL_sD]; assumption) | simp [kd_sI, kd_sR, kd_sA, kd_sQ, kd_sL, kd_sD, ln_sI, ln_sR, ln_sA, ln_sQ, ln_sL, ln_sD, gI_sR, gI_sA, gI_sQ, gI_sL, gI_sD, gR_sI, gR_sA, gR_sQ, gR_sL, gR_sD, gA_sI, gA_sR, gA_sQ, gA_sL, gA_sD, gQ_sI, gQ_sR, gQ_sA, gQ_sL, gQ_sD, gL_sI, gL_sR, gL_sA, gL_sQ, gL_sD, kd_nO, kd_nA, *]) (by first | assumption | exact gI_sIs | exact gR_sRs | with_reducible rfl | (simp only [kd_sI, kd_sR, kd_sA, kd_sQ, kd_sL, kd_sD, ln_sI, ln_sR, ln_sA, ln_sQ, ln_sL, ln_sD, gI_sR, gI_sA, gI_sQ, gI_sL, gI_sD, gR_sI, gR_sA, gR_sQ, gR_sL, gR_sD, gA_sI, gA_sR, gA_sQ, gA_sL, gA_sD, gQ_sI, gQ_sR, gQ_sA, gQ_sL, gQ_sD, gL_sI, gL_sR, gL_sA, gL_sQ, gL_sD]; first | done | assumption | with_reducible rfl) | rfl) ?_
                  refine r_iload dX3_findsRests_56 rfl ?_
                  refine r_aload_n (i := 0) dX3_findsRests_58 rfl rfl ?_
                  refine r_getR dX3_findsRests_59 fR_X3_41 (by first | assumption | (simp only [kd_sI, kd_sR, kd_sA, kd_sQ, kd_sL, kd_sD, ln_sI, ln_sR, ln_sA, ln_sQ, ln_sL, ln_sD, gI_sR, gI_sA, gI_sQ, gI_sL, gI_sD, gR_sI, gR_sA, gR_sQ, gR_sL, gR_sD, gA_sI, gA_sR, gA_sQ, gA_sL, gA_sD, gQ_sI, gQ_sR, gQ_sA, gQ_sL, gQ_sD, gL_sI, gL_sR, gL_sA, gL_sQ, gL_sD]; assumption) | simp [kd_sI, kd_sR, kd_sA, kd_sQ, kd_sL, kd_sD, ln_sI, ln_sR, ln_sA, ln_sQ, ln_sL, ln_sD, gI_sR, gI_sA, gI_sQ, gI_sL, gI_sD, gR_sI, gR_sA, gR_sQ, gR_sL, gR_sD, gA_sI, gA_sR, gA_sQ, gA_sL, gA_sD, gQ_sI, gQ_sR, gQ_sA, gQ_sL, gQ_sD, gL_sI, gL_sR, gL_sA, gL_sQ, gL_sD, kd_nO, kd_nA, *]) (by first | assumption | exact gI_sIs | exact gR_sRs | with_reducible rfl | (simp only [kd_sI, kd_sR, kd_sA, kd_sQ, kd_sL, kd_sD, ln_sI, ln_sR, ln_sA, ln_sQ, ln_sL, ln_sD, gI_sR, gI_sA, gI_sQ, gI_sL, gI_sD, gR_sI, gR_sA, gR_sQ, gR_sL, gR_sD, gA_sI, gA_sR, gA_sQ, gA_sL, gA_sD, gQ_sI, gQ_sR, gQ_sA, gQ_sL, gQ_sD, gL_sI, gL_sR, gL_sA, gL_sQ, gL_sD]; first | done | assumption | with_reducible rfl) | rfl) ?_
                  refine r_iload dX3_findsRests_62 rfl ?_
                  refine r_iconst (v := nI 1) dX3_findsRests_64 (by decide) ?_
                  refine r_isub dX3_findsRests_65 ?_
                  rw [e1]
                  refine r_iald dX3_findsRests_66 (by first | assumption | (simp only [kd_sI, kd_sR, kd_sA, kd_sQ, kd_sL, kd_sD, ln_sI, ln_sR, ln_sA, ln_sQ, ln_sL, ln_sD, gI_sR, gI_sA, gI_sQ, gI_sL, gI_sD, gR_sI, gR_sA, gR_sQ, gR_sL, gR_sD, gA_sI, gA_sR, gA_sQ, gA_sL, gA_sD, gQ_sI, gQ_sR, gQ_sA, gQ_sL, gQ_sD, gL_sI, gL_sR, gL_sA, gL_sQ, gL_sD]; assumption) | simp [kd_sI, kd_sR, kd_sA, kd_sQ, kd_sL, kd_sD, ln_sI, ln_sR, ln_sA, ln_sQ, ln_sL, ln_sD, gI_sR, gI_sA, gI_sQ, gI_sL, gI_sD, gR_sI, gR_sA, gR_sQ, gR_sL, gR_sD, gA_sI, gA_sR, gA_sQ, gA_sL, gA_sD, gQ_sI, gQ_sR, gQ_sA, gQ_sL, gQ_sD, gL_sI, gL_sR, gL_sA, gL_sQ, gL_sD, kd_nO, kd_nA, *]) (by first | decide | assumption) (by first | assumption | exact gI_sIs | exact gR_sRs | with_reducible rfl | (simp only [kd_sI, kd_sR, kd_sA, kd_sQ, kd_sL, kd_sD, ln_sI, ln_sR, ln_sA, ln_sQ, ln_sL, ln_sD, gI_sR, gI_sA, gI_sQ, gI_sL, gI_sD, gR_sI, gR_sA, gR_sQ, gR_sL, gR_sD, gA_sI, gA_sR, gA_sQ, gA_sL, gA_sD, gQ_sI, gQ_sR, gQ_sA, gQ_sL, gQ_sD, gL_sI, gL_sR, gL_sA, gL_sQ, gL_sD]; first | done | assumption | with_reducible rfl) | rfl) (by first | with_reducible rfl | assumption | (simp only [nI_add, pk_mul, nI_1]; with_reducible rfl)) (by first | assumption | omega) (by first | assumption | omega) (by first | assumption | exact gI_sIs | exact gR_sRs | with_reducible rfl | (simp only [kd_sI, kd_sR, kd_sA, kd_sQ, kd_sL, kd_sD, ln_sI, ln_sR, ln_sA, ln_sQ, ln_sL, ln_sD, gI_sR, gI_sA, gI_sQ, gI_sL, gI_sD, gR_sI, gR_sA, gR_sQ, gR_sL, gR_sD, gA_sI, gA_sR, gA_sQ, gA_sL, gA_sD, gQ_sI, gQ_sR, gQ_sA, gQ_sL, gQ_sD, gL_sI, gL_sR, gL_sA, gL_sQ, gL_sD]; first | done | assumption | with_reducible rfl) | rfl) ?_
                  refine r_iast dX3_findsRests_67 (by first | assumption | (simp only [kd_sI, kd_sR, kd_sA, kd_sQ, kd_sL, kd_sD, ln_sI, ln_sR, ln_sA, ln_sQ, ln_sL, ln_sD, gI_sR, gI_sA, gI_sQ, gI_sL, gI_sD, gR_sI, gR_sA, gR_sQ, gR_sL, gR_sD, gA_sI, gA_sR, gA_sQ, gA_sL, gA_sD, gQ_sI, gQ_sR, gQ_sA, gQ_sL, gQ_sD, gL_sI, gL_sR, gL_sA, gL_sQ, gL_sD]; assumption) | simp [kd_sI, kd_sR, kd_sA, kd_sQ, kd_sL, kd_sD, ln_sI, ln_sR, ln_sA, ln_sQ, ln_sL, ln_sD, gI_sR, gI_sA, gI_sQ, gI_sL, gI_sD, gR_sI, gR_sA, gR_sQ, gR_sL, gR_sD, gA_sI, gA_sR, gA_sQ, gA_sL, gA_sD, gQ_sI, gQ_sR, gQ_sA, gQ_sL, gQ_sD, gL_sI, gL_sR, gL_sA, gL_sQ, gL_sD, kd_nO, kd_nA, *]) (by first | decide | assumption) (by first | assumption | exact gI_sIs | exact gR_sRs | with_reducible rfl | (simp only [kd_sI, kd_sR, kd_sA, kd_sQ, kd_sL, kd_sD, ln_sI, ln_sR, ln_sA, ln_sQ, ln_sL, ln_sD, gI_sR, gI_sA, gI_sQ, gI_sL, gI_sD, gR_sI, gR_sA, gR_sQ, gR_sL, gR_sD, gA_sI, gA_sR, gA_sQ, gA_sL, gA_sD, gQ_sI, gQ_sR, gQ_sA, gQ_sL, gQ_sD, gL_sI, gL_sR, gL_sA, gL_sQ, gL_sD]; first | done | assumption | with_reducible rfl) | rfl) (by first | with_reducible rfl | assumption | (simp only [nI_add, pk_mul, nI_1]; with_reducible rfl)) (by first | assumption | omega) (by first | assumption | omega) ?_
                  refine r_iinc dX3_findsRests_68 rfl (by first | exact pk_m1 _ | rfl) (by simp only [lset]; rfl) ?_
                  refine r_goto (tgt := 29) dX3_findsRests_71 (by decide) ?_
                  refine ihq _ (by omega) (hU2.sA (f := 85) (Or.inl (by decide)) (by decide) (by decide)) ?_ ?_
                  · intro j hj
                    rw [gA_sAs]
                    unfold upd
                    rw [if_neg (by omega)]
                    exact hlo j (by omega)
                  · intro j h1 h2
                    rw [gA_sAs]
                    unfold upd
                    by_cases h3 : j = q
                    · rw [if_pos (by omega), h3]
                      exact ⟨rfl, hlt⟩
                    · rw [if_neg (by omega)]
                      exact hhi j (by omega) h2
          refine r_iload_n (i := 2) dX3_findsRests_26 rfl rfl ?_
          refine r_istore dX3_findsRests_27 (Nat.le_of_ble_eq_true rfl) (by simp only [lset]; rfl) ?_
          exact inner l.length H1 (Nat.le_refl _) hU hA (fun j h1 h2 => by omega)
  exact loop N 0 H none (by omega) MU.rf (fun j hj => absurd hj (by simp [restsF]))
end Mo17
