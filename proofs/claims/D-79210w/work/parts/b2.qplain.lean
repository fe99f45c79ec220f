set_option maxRecDepth 100000
/-! WHAT IS ASKED, PLAINLY -/
theorem and_hi {n v : Nat} (hv : v < 2 ^ n) (h0 : v ≠ 0) : (v + 2 ^ n) &&& (v + 2 ^ n - 1) = (v &&& (v - 1)) + 2 ^ n := by
  have h1 := Nat.two_pow_add_eq_or_of_lt hv 1
  have h2 := Nat.two_pow_add_eq_or_of_lt (show v - 1 < 2 ^ n by omega) 1
  have hle : v &&& (v - 1) ≤ v := Nat.and_le_left
  have h3 := Nat.two_pow_add_eq_or_of_lt (show (v &&& (v - 1)) < 2 ^ n by omega) 1
  rw [Nat.mul_one] at h1 h2 h3
  rw [show v + 2 ^ n - 1 = 2 ^ n + (v - 1) by omega, Nat.add_comm v, Nat.add_comm (v &&& (v - 1)), h1, h2, h3]
  apply Nat.eq_of_testBit_eq
  intro i
  simp only [Nat.testBit_and, Nat.testBit_or]
  cases (2 ^ n).testBit i <;> simp
theorem pop_hi {n : Nat} : ∀ v, v < 2 ^ n → popN (v + 2 ^ n) = popN v + 1 := by
  intro v
  induction v using Nat.strongRecOn with
  | _ v ih =>
    intro hv
    have hp := Nat.two_pow_pos n
    by_cases h0 : v = 0
    · subst h0
      rw [Nat.zero_add, popN_s (by omega)]
      have e : 2 ^ n &&& (2 ^ n - 1) = 0 := by
        rw [Nat.and_two_pow_sub_one_eq_mod]
        exact Nat.mod_self _
      rw [e]
      rfl
    · have hlt : v &&& (v - 1) < v := by
        have : v &&& (v - 1) ≤ v - 1 := Nat.and_le_right
        omega
      rw [popN_s (by omega), and_hi hv h0, ih _ hlt (by omega), popN_s h0]
      omega
theorem pop_sum (b : Nat → Bool) : ∀ n, ((List.range n).map (fun c => if b c then 2 ^ c else 0)).sum < 2 ^ n ∧ popN ((List.range n).map (fun c => if b c then 2 ^ c else 0)).sum = sumF (fun c => if b c then 1 else 0) n := by
  intro n
  induction n with
  | zero => exact ⟨Nat.one_pos, rfl⟩
  | succ n ih =>
    obtain ⟨h1, h2⟩ := ih
    have e : sumF (fun c => if b c then 1 else 0) (n + 1) = sumF (fun c => if b c then 1 else 0) n + (if b n then 1 else 0) := rfl
    rw [List.range_succ, List.map_append, List.sum_append, Nat.pow_succ, e]
    simp only [List.map_cons, List.map_nil, List.sum_cons, List.sum_nil, Nat.add_zero]
    cases hb : b n with
    | true =>
      rw [if_pos rfl, if_pos rfl, pop_hi _ h1, h2]
      exact ⟨by omega, rfl⟩
    | false =>
      rw [if_neg (by decide), if_neg (by decide), Nat.add_zero, h2]
      exact ⟨by omega, rfl⟩
theorem sumF_cg {f f' : Nat → Nat} : ∀ n, (∀ k, k < n → f k = f' k) → sumF f n = sumF f' n := by
  intro n
  induction n with
  | zero => intro _; rfl
  | succ n ih =>
    intro h
    show sumF f n + f n = sumF f' n + f' n
    rw [ih (fun k hk => h k (by omega)), h n (by omega)]
theorem sumF_add {f f' : Nat → Nat} : ∀ n, sumF (fun k => f k + f' k) n = sumF f n + sumF f' n := by
  intro n
  induction n with
  | zero => rfl
  | succ n ih =>
    show sumF _ n + (f n + f' n) = sumF f n + f n + (sumF f' n + f' n)
    rw [ih]
    omega
theorem sumF_swap {f : Nat → Nat → Nat} : ∀ m n, sumF (fun k => sumF (fun c => f k c) n) m = sumF (fun c => sumF (fun k => f k c) m) n := by
  intro m
  induction m with
  | zero =>
    intro n
    show 0 = sumF (fun c => 0) n
    exact ((sumF_0 n).mpr (fun _ _ => rfl)).symm
  | succ m ih =>
    intro n
    show sumF (fun k => sumF (fun c => f k c) n) m + sumF (fun c => f m c) n = sumF (fun c => sumF (fun k => f k c) m + f m c) n
    rw [ih, sumF_add]
theorem sumF_one {P : Nat → Bool} {k0 : Nat} : ∀ m, k0 < m → (∀ k, k < m → (P k = true ↔ k = k0)) → sumF (fun k => if P k then 1 else 0) m = 1 := by
  intro m
  induction m with
  | zero => intro h; omega
  | succ m ih =>
    intro h hP
    show sumF _ m + (if P m then 1 else 0) = 1
    by_cases e : k0 = m
    · rw [(sumF_0 m).mpr (fun k hk => if_neg (fun q => by have := (hP k (by omega)).mp q; omega)), if_pos ((hP m (by omega)).mpr e.symm)]
    · rw [ih (by omega) (fun k hk => hP k (by omega)), if_neg (fun q => e ((hP m (by omega)).mp q).symm)]
/-- the counts of a tray's compartments, together -/
theorem cnt_pop {g : Nat → Int32} {t : Nat} (hI : IG g) (ht : t < nat g 40) : sumN (tvU (tvOf g t)) (tvN (tvOf g t)) = nI (popN (q_setN g (nI t))) := by
  have hB := hI.1
  have hGR := hI.2.2.2.2.2.2.2.2.2.1
  have hn4 := (hB.2.2.2.2.1 t ht).1.2
  have h40 := hB.2.1.2
  have e1 : sumN (tvU (tvOf g t)) (tvN (tvOf g t)) = nI (sumF (fun k => sumF (fun c => if q_in g (nI t) (nI k) c then 1 else 0) (nat g 101)) (nat g (45 + 5 * t))) := by
    show sumN (fun k => q_cnt g (nI t) (nI k)) (nat g (45 + 5 * t)) = _
    refine sumN_nI _ (fun k hk => ?_)
    unfold q_cnt
    refine sumN_nI _ (fun c hc => ?_)
    split <;> rfl
  rw [e1]
  congr 1
  have e2 := (pop_sum (fun c => (q_step g c (nI t)).isSome) (nat g 101)).2
  rw [show q_setN g (nI t) = ((List.range (nat g 101)).map (fun c => if (q_step g c (nI t)).isSome then 2 ^ c else 0)).sum from rfl, e2, sumF_swap]
  refine sumF_cg _ (fun c hc => ?_)
  cases hst : q_step g c (nI t) with
  | none =>
    rw [if_neg (by simp)]
    refine (sumF_0 _).mpr (fun k hk => if_neg (fun q => ?_))
    unfold q_in at q
    rw [hst] at q
    cases q
  | some j =>
    rw [if_pos (show (some j).isSome = true from rfl)]
    have hst2 := hst
    unfold q_step at hst2
    obtain ⟨-, hj, hjt⟩ := find9_lt hst2
    have hj' : j < nat g (106 + 21 * c) := by omega
    have ejt : g (109 + 21 * c + j) = nI t := eq_of_beq hjt
    have k1 := (hGR c hc).2.2 j hj'
    have ent : nat g (109 + 21 * c + j) = t := by unfold nat; rw [ejt]; exact nI_clamp (by omega)
    rw [ent] at k1
    refine sumF_one (P := fun k => q_in g (nI t) (nI k) c) (k0 := nat g (116 + 21 * c + j)) _ k1.2 (fun k hk => ?_)
    unfold q_in
    rw [hst]
    show (g (116 + 21 * c + j) == nI k) = true ↔ _
    have k2 := k1.2
    obtain ⟨kk, hkk⟩ : ∃ x, nat g (116 + 21 * c + j) = x := ⟨_, rfl⟩
    have k11 := k1.1
    rw [hkk] at k11 k2 ⊢
    rw [k11, nI_beq (by omega) (by omega), decide_eq_true_iff]
    exact eq_comm
theorem free_eq {g : Nat → Int32} {t : Nat} (hI : IG g) (ht : t < nat g 40) : sumN (fun k => if tvC (tvOf g t) k = -1 then nI 1 else nI 0) (tvN (tvOf g t)) = q_free g t := by
  unfold q_free
  refine sumN_cg _ (fun k hk => ?_)
  show (if q_class g (nI t) (nI k) = -1 then nI 1 else nI 0) = _
  rcases q_cls_cases (t := nI t) (k := nI k) hI.1 hI.2.2.2.2.2.2.2.1 with h | ⟨j, hj, h⟩
  · rw [h, if_pos rfl, if_pos (by decide)]
  · rw [h, if_neg (show ¬ nI j = -1 from oI_lt (f := j) (by omega)), if_neg (by rw [Int32.not_lt]; exact nI_le (a := 0) (Nat.zero_le j) (by omega))]
theorem room_eq {g : Nat → Int32} {t : Nat} (hB : GB g) (ht : t < nat g 40) : tvRoom (tvOf g t) = q_room g t := by
  show g (44 + 5 * t) / nI (nat g (45 + 5 * t)) = g (44 + 5 * t) / g (45 + 5 * t)
  rw [← (hB.2.2.2.2.1 t ht).1.1]
theorem kept_eq {g : Nat → Int32} {t : Nat} (hB : GB g) (ht : t < nat g 40) : tvKept (tvOf g t) (g 0) = q_kept g t := by
  unfold tvKept q_kept
  rw [room_eq hB ht]
theorem now_eq {g : Nat → Int32} {c : Nat} (hI : IG g) (hc : c < nat g 101) : ndF g c = q_now g c := by
  obtain ⟨h1, h2⟩ := hI.2.2.2.2.2.2.2.2.1 c hc
  unfold ndF q_now
  by_cases h0 : g (105 + 21 * c) = 0
  · rw [if_pos h0, if_neg (by rw [h0]; decide), (h2 h0).1]
    rfl
  · rw [if_neg h0]
    have h3 := h1.2
    have h4 := h1.1
    obtain ⟨x, hx⟩ : ∃ x, nat g (105 + 21 * c) = x := ⟨_, rfl⟩
    rw [hx] at h3 h4
    rcases (show x = 0 ∨ x = 1 ∨ x = 2 by omega) with rfl | rfl | rfl
    · exact absurd h4 h0
    · rw [h4, if_neg (by decide), if_pos rfl]
    · rw [h4, if_pos rfl, if_neg (by decide)]
theorem drums_all {g : Nat → Int32} {w : Nat} (hw : w ≠ 0) : q_drums g w (-1) = sumN (fun x => g (355 + 3 * x + w)) (nat g 354) := by
  unfold q_drums
  exact sumN_cg _ (fun x _ => by rw [if_pos (Or.inl (by decide)), if_neg hw])
theorem inB_out {v : Int32} {n : Nat} (h : inB v (nI 0) (nI n) = false) (hn : n < 65536) : v.toInt < 0 ∨ (n : Int) < v.toInt := by
  unfold inB at h
  rw [decide_eq_false_iff_not] at h
  rcases Int.lt_or_le v.toInt 0 with q | q
  · exact Or.inl q
  · right
    refine Int.not_le.mp (fun q2 => h ⟨?_, ?_⟩)
    · rw [Int32.le_iff_toInt_le, nI_toInt (by omega)]
      exact q
    · rw [Int32.le_iff_toInt_le, nI_toInt (by omega)]
      exact q2
