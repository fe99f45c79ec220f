set_option maxRecDepth 100000
/-! WHAT LAYING AND LEAVING DO to what g says of a tray -/
theorem sumN_one {F F' : Nat → Int32} {c0 : Nat} {x : Int32} : ∀ n, c0 < n → (∀ c, c < n → c ≠ c0 → F' c = F c) → F' c0 = F c0 + x → sumN F' n = sumN F n + x := by
  intro n
  induction n with
  | zero => intro h; omega
  | succ n ih =>
    intro h h1 h2
    show sumN F' n + F' n = sumN F n + F n + x
    by_cases hc : c0 = n
    · rw [← hc, h2, sumN_cg c0 (fun c hc9 => h1 c (by omega) (by omega))]
      exact (Int32.add_assoc _ _ _).symm
    · rw [ih (by omega) (fun c q1 q2 => h1 c (by omega) q2) h2, h1 n (by omega) (fun e => hc e.symm)]
      rw [Int32.add_assoc, Int32.add_comm x, ← Int32.add_assoc]
theorem find9_at {p q : Nat → Bool} {n c0 : Nat} (h : ∀ c, c < n → c ≠ c0 → q c = p c) (hp : p c0 = false) (hq : q c0 = false) : find9 q 0 n = find9 p 0 n := find9_cg _ _ (fun j _ hj => by
  by_cases e : j = c0
  · rw [e, hp, hq]
  · exact h j (by omega) e)
/-- one cable differs, and it lies not there in either -/
theorem tri_same {g g' : Nat → Int32} {t k : Int32} {c0 : Nat} (h101 : nat g' 101 = nat g 101) (hty : ∀ c, c < nat g 101 → g' (8 + 6 * nat g' (102 + 21 * c)) = g (8 + 6 * nat g (102 + 21 * c)) ∧ g' (9 + 6 * nat g' (102 + 21 * c)) = g (9 + 6 * nat g (102 + 21 * c))) (hin : ∀ c, c < nat g 101 → c ≠ c0 → q_in g' t k c = q_in g t k c) (h1 : q_in g t k c0 = q_in g' t k c0) : q_class g' t k = q_class g t k ∧ q_area g' t k = q_area g t k ∧ q_cnt g' t k = q_cnt g t k := by
  have hi : ∀ c, c < nat g 101 → q_in g' t k c = q_in g t k c := fun c hc => by
    by_cases e : c = c0
    · rw [e, h1]
    · exact hin c hc e
  refine ⟨?_, ?_, ?_⟩
  · unfold q_class
    rw [h101, find9_cg (q := q_in g t k) _ _ (fun j _ hj => hi j (by omega))]
    cases hf : find9 (q_in g t k) 0 (nat g 101) with
    | none => rfl
    | some c => exact (hty c (by have := (find9_lt hf).2.1; omega)).1
  · unfold q_area
    rw [h101]
    exact sumN_cg _ (fun c hc => by rw [hi c hc, (hty c hc).2])
  · unfold q_cnt
    rw [h101]
    exact sumN_cg _ (fun c hc => by rw [hi c hc])
/-- one cable comes in -/
theorem tri_in {g g' : Nat → Int32} {t k : Int32} {c0 : Nat} (h101 : nat g' 101 = nat g 101) (hc0 : c0 < nat g 101) (hty : ∀ c, c < nat g 101 → g' (8 + 6 * nat g' (102 + 21 * c)) = g (8 + 6 * nat g (102 + 21 * c)) ∧ g' (9 + 6 * nat g' (102 + 21 * c)) = g (9 + 6 * nat g (102 + 21 * c))) (hin : ∀ c, c < nat g 101 → c ≠ c0 → q_in g' t k c = q_in g t k c) (h1 : q_in g t k c0 = false) (h2 : q_in g' t k c0 = true) : q_area g' t k = q_area g t k + g (9 + 6 * nat g (102 + 21 * c0)) ∧ q_cnt g' t k = q_cnt g t k + nI 1 := by
  refine ⟨?_, ?_⟩
  · unfold q_area
    rw [h101]
    refine sumN_one _ hc0 (fun c hc hn => by rw [hin c hc hn, (hty c hc).2]) ?_
    show (if q_in g' t k c0 = true then _ else _) = (if q_in g t k c0 = true then _ else _) + _
    rw [h1, h2, if_pos rfl, if_neg (by decide), (hty c0 hc0).2]
    exact (Int32.zero_add _).symm
  · unfold q_cnt
    rw [h101]
    refine sumN_one _ hc0 (fun c hc hn => by rw [hin c hc hn]) ?_
    show (if q_in g' t k c0 = true then _ else _) = (if q_in g t k c0 = true then _ else _) + _
    rw [h1, h2, if_pos rfl, if_neg (by decide)]
    exact (Int32.zero_add _).symm
theorem i32_sub {a b x : Int32} (h : a = b + x) : b = a - x := by
  rw [h, Int32.sub_eq_add_neg, Int32.add_assoc, Int32.add_right_neg, Int32.add_zero]
/-- a count of few is 0 when none is in -/
theorem cnt_0 {P : Nat → Bool} : ∀ n, n < 1000 → ∃ m, m ≤ n ∧ sumN (fun c => if P c then nI 1 else nI 0) n = nI m ∧ (m = 0 ↔ ∀ c, c < n → P c = false) := by
  intro n
  induction n with
  | zero => intro _; exact ⟨0, Nat.le_refl _, rfl, by simp⟩
  | succ n ih =>
    intro hn
    obtain ⟨m, h1, h2, h3⟩ := ih (by omega)
    cases hp : P n with
    | false =>
      refine ⟨m, by omega, ?_, ?_⟩
      · show sumN _ n + (if P n then nI 1 else nI 0) = _
        rw [h2, hp, if_neg (by decide), nI_add, Nat.add_zero]
      · rw [h3]
        refine ⟨fun h c hc => ?_, fun h c hc => h c (by omega)⟩
        by_cases e : c = n
        · rw [e, hp]
        · exact h c (by omega)
    | true =>
      refine ⟨m + 1, by omega, ?_, ?_⟩
      · show sumN _ n + (if P n then nI 1 else nI 0) = _
        rw [h2, hp, if_pos rfl, nI_add]
      · refine ⟨fun h => by omega, fun h => ?_⟩
        have := h n (by omega)
        rw [hp] at this
        cases this
/-! laying -/
theorem routeG_v {g : Nat → Int32} {c0 : Nat} {r : List Nat} (hB : GB g) (hc0 : c0 < nat g 101) (hr7 : r.length ≤ 7) : (∀ i, i < 105 + 21 * c0 ∨ 123 + 21 * c0 ≤ i → routeG g c0 r i = g i) ∧ routeG g c0 r (105 + 21 * c0) = nI 1 ∧ routeG g c0 r (106 + 21 * c0) = nI r.length ∧ nat (routeG g c0 r) (106 + 21 * c0) = r.length ∧ (∀ j, j < r.length → routeG g c0 r (109 + 21 * c0 + j) = nI (r.getD j 0) ∧ routeG g c0 r (116 + 21 * c0 + j) = oI (q_place g (r.getD j 0) (nat g (102 + 21 * c0)))) ∧ routeG g c0 r (107 + 21 * c0) = g (107 + 21 * c0) ∧ routeG g c0 r (108 + 21 * c0) = g (108 + 21 * c0) := by
  have e5 : routeG g c0 r (105 + 21 * c0) = nI 1 := by unfold routeG; rw [if_pos rfl]
  have e6 : routeG g c0 r (106 + 21 * c0) = nI r.length := by unfold routeG; rw [if_neg (by omega), if_pos rfl]
  refine ⟨fun i hi => routeG_out hr7 hi, e5, e6, by unfold nat; rw [e6]; exact nI_clamp (by omega), fun j hj => ⟨?_, ?_⟩, ?_, ?_⟩
  · unfold routeG
    rw [if_neg (by omega), if_neg (by omega), if_pos (by omega), show 109 + 21 * c0 + j - (109 + 21 * c0) = j by omega]
  · unfold routeG
    rw [if_neg (by omega), if_neg (by omega), if_neg (by omega), if_pos (by omega), show 116 + 21 * c0 + j - (116 + 21 * c0) = j by omega]
  · unfold routeG
    rw [if_neg (by omega), if_neg (by omega), if_neg (by omega), if_neg (by omega)]
  · unfold routeG
    rw [if_neg (by omega), if_neg (by omega), if_neg (by omega), if_neg (by omega)]
/-- types and counts where only one cable's cells differ -/
theorem ty_same {g g' : Nat → Int32} {c0 : Nat} (hB : GB g) (hc0 : c0 < nat g 101) (out : ∀ i, i < 105 + 21 * c0 ∨ 123 + 21 * c0 ≤ i → g' i = g i) : nat g' 101 = nat g 101 ∧ (∀ c, c < nat g 101 → g' (8 + 6 * nat g' (102 + 21 * c)) = g (8 + 6 * nat g (102 + 21 * c)) ∧ g' (9 + 6 * nat g' (102 + 21 * c)) = g (9 + 6 * nat g (102 + 21 * c))) ∧ ∀ t k c, c < nat g 101 → c ≠ c0 → q_in g' t k c = q_in g t k c := by
  have h3 := hB.1.2
  refine ⟨nat_eq (out 101 (by omega)), fun c hc => ?_, fun t k c hc hn => ?_⟩
  · have e : nat g' (102 + 21 * c) = nat g (102 + 21 * c) := nat_eq (out _ (by omega))
    have h1 := (hB.2.2.2.2.2 c hc).1.2
    rw [e]
    exact ⟨out _ (by omega), out _ (by omega)⟩
  · have h8 := (hB.2.2.2.2.2 c hc).2.1.2
    exact q_in_c h8 (out _ (by omega)) (fun w h1 h2 => out _ (by omega))
theorem q_step_none {g : Nat → Int32} {c : Nat} {t : Int32} (h : ∀ j, j < nat g (106 + 21 * c) → g (109 + 21 * c + j) ≠ t) : q_step g c t = none := by
  unfold q_step
  exact find9_isno (fun x _ hx => beq_false_of_ne (h x (by omega)))
theorem q_step_some {g : Nat → Int32} {c i : Nat} {t : Int32} (hi : i < nat g (106 + 21 * c)) (hg : g (109 + 21 * c + i) = t) (h : ∀ j, j < i → g (109 + 21 * c + j) ≠ t) : q_step g c t = some i := by
  unfold q_step
  exact find9_is (Nat.zero_le _) (by omega) (by rw [hg]; exact beq_self_eq_true _) (fun x _ hx => beq_false_of_ne (h x hx))
theorem tv_route_out {g : Nat → Int32} {c0 t : Nat} {r : List Nat} (hB : GB g) (hc0 : c0 < nat g 101) (hr7 : r.length ≤ 7) (hrt : ∀ x, x ∈ r → x < 13) (h0 : nat g (106 + 21 * c0) = 0) (ht : t < nat g 40) (htr : t ∉ r) : tvOf (routeG g c0 r) t = tvOf g t := by
  obtain ⟨out, v5, v6, n6, v9, -, -⟩ := routeG_v hB hc0 hr7
  obtain ⟨h101, hty, hin⟩ := ty_same hB hc0 out
  have h40 := hB.2.1.2
  have q1 : ∀ k, q_in g (nI t) k c0 = q_in (routeG g c0 r) (nI t) k c0 := by
    intro k
    rw [q_in_0 h0]
    unfold q_in
    rw [q_step_none (fun j hj e => ?_)]
    rw [n6] at hj
    rw [(v9 j hj).1] at e
    have hm := getD_mem hj
    have hb := hrt _ hm
    rw [(nI_eq (by omega) (by omega)).mp e] at hm
    exact htr hm
  exact tv_of (fun w hw => out _ (by omega)) (fun k => (tri_same h101 hty (fun c h1 h2 => hin _ _ c h1 h2) (q1 k)).1) (fun k => (tri_same h101 hty (fun c h1 h2 => hin _ _ c h1 h2) (q1 k)).2.1) (fun k => (tri_same h101 hty (fun c h1 h2 => hin _ _ c h1 h2) (q1 k)).2.2)
/-- a tray laid in is as g says behind -/
theorem tv_route_in {g : Nat → Int32} {c0 i k0 : Nat} {r : List Nat} (hB : GB g) (hI' : IG (routeG g c0 r)) (hc0 : c0 < nat g 101) (hr7 : r.length ≤ 7) (hrt : ∀ x, x ∈ r → x < nat g 40) (hnd : r.Nodup) (h0 : nat g (106 + 21 * c0) = 0) (hi : i < r.length) (hk0 : q_place g (r.getD i 0) (nat g (102 + 21 * c0)) = some k0) : ∀ j, j < 4 → tvC (tvOf (routeG g c0 r) (r.getD i 0)) j = upd (tvC (tvOf g (r.getD i 0))) k0 (g (8 + 6 * nat g (102 + 21 * c0))) j ∧ tvF (tvOf (routeG g c0 r) (r.getD i 0)) j = upd (tvF (tvOf g (r.getD i 0))) k0 (tvF (tvOf g (r.getD i 0)) k0 + g (9 + 6 * nat g (102 + 21 * c0))) j ∧ tvU (tvOf (routeG g c0 r) (r.getD i 0)) j = upd (tvU (tvOf g (r.getD i 0))) k0 (tvU (tvOf g (r.getD i 0)) k0 + nI 1) j := by
  obtain ⟨out, v5, v6, n6, v9, -, -⟩ := routeG_v hB hc0 hr7
  obtain ⟨h101, hty, hin⟩ := ty_same hB hc0 out
  have h40 := hB.2.1.2
  have hmi := getD_mem hi
  have ht := hrt _ hmi
  obtain ⟨t, htt⟩ : ∃ t, r.getD i 0 = t := ⟨_, rfl⟩
  rw [htt] at ht hk0 ⊢
  have hk4 : k0 < 4 := by
    have h1 := place_lt hk0
    have h2 := (hB.2.2.2.2.1 t ht).1.2
    omega
  have hst : q_step (routeG g c0 r) c0 (nI t) = some i := by
    refine q_step_some (by rw [n6]; exact hi) (by rw [(v9 i hi).1, htt]) (fun j hj e => ?_)
    rw [(v9 j (by omega)).1] at e
    have hb := hrt _ (getD_mem (show j < r.length by omega))
    have e2 : r.getD j 0 = r.getD i 0 := by rw [htt]; exact (nI_eq (by omega) (by omega)).mp e
    have hj' : j < r.length := by omega
    have e3 : r[j] = r[i] := by simpa [List.getD, hj', hi] using e2
    exact (List.pairwise_iff_getElem.mp hnd) j i hj' hi hj e3
  have hqi : ∀ j, j < 4 → q_in (routeG g c0 r) (nI t) (nI j) c0 = decide (k0 = j) := by
    intro j hj
    unfold q_in
    rw [hst]
    show (routeG g c0 r (116 + 21 * c0 + i) == nI j) = _
    rw [(v9 i hi).2, htt, hk0]
    exact nI_beq (by omega) (by omega)
  have hq0 : ∀ k, q_in g (nI t) k c0 = false := fun k => q_in_0 h0
  intro j hj
  by_cases hjk : j = k0
  · rw [hjk]
    have e1 : q_in (routeG g c0 r) (nI t) (nI k0) c0 = true := by rw [hqi k0 hk4]; exact decide_eq_true rfl
    obtain ⟨a1, a2⟩ := tri_in h101 hc0 hty (fun c h1 h2 => hin _ _ c h1 h2) (hq0 (nI k0)) e1
    refine ⟨?_, ?_, ?_⟩
    · rw [upd_s]
      show q_class (routeG g c0 r) (nI t) (nI k0) = _
      have hGK := hI'.2.2.2.2.2.2.2.2.2.2
      rw [q_class_of (GK_2 hGK) (by rw [h101]; exact hc0) e1]
      exact (hty c0 hc0).1
    · rw [upd_s]
      exact a1
    · rw [upd_s]
      exact a2
  · have e1 : q_in (routeG g c0 r) (nI t) (nI j) c0 = false := by rw [hqi j hj]; exact decide_eq_false (fun e => hjk e.symm)
    obtain ⟨a1, a2, a3⟩ := tri_same h101 hty (fun c h1 h2 => hin _ _ c h1 h2) ((hq0 (nI j)).trans e1.symm)
    rw [upd_n hjk, upd_n hjk, upd_n hjk]
    exact ⟨a1, a2, a3⟩
/-! leaving -/
theorem leavesG_v {g : Nat → Int32} {c0 : Nat} : (∀ i, i < 105 + 21 * c0 ∨ 109 + 21 * c0 ≤ i → leavesG g c0 i = g i) ∧ leavesG g c0 (105 + 21 * c0) = nI 0 ∧ leavesG g c0 (106 + 21 * c0) = nI 0 ∧ leavesG g c0 (107 + 21 * c0) = nI 0 ∧ leavesG g c0 (108 + 21 * c0) = -1 := by
  refine ⟨fun i hi => ?_, ?_, ?_, ?_, ?_⟩
  · unfold leavesG
    rw [upd_n (by omega), upd_n (by omega), upd_n (by omega), upd_n (by omega)]
  · unfold leavesG
    rw [upd_n (by omega), upd_n (by omega), upd_n (by omega), show 105 + 21 * c0 = 102 + 21 * c0 + 3 by omega, upd_s]
  · unfold leavesG
    rw [upd_n (by omega), upd_n (by omega), show 106 + 21 * c0 = 102 + 21 * c0 + 4 by omega, upd_s]
  · unfold leavesG
    rw [upd_n (by omega), show 107 + 21 * c0 = 102 + 21 * c0 + 5 by omega, upd_s]
  · unfold leavesG
    rw [show 108 + 21 * c0 = 102 + 21 * c0 + 6 by omega, upd_s]
theorem tv_leave_out {g : Nat → Int32} {c0 t : Nat} (hB : GB g) (hc0 : c0 < nat g 101) (ht : t < nat g 40) (hno : ∀ j, j < nat g (106 + 21 * c0) → nat g (109 + 21 * c0 + j) ≠ t) : tvOf (leavesG g c0) t = tvOf g t := by
  obtain ⟨out, v5, v6, v7, v8⟩ := leavesG_v (g := g) (c0 := c0)
  obtain ⟨h101, hty, hin⟩ := ty_same hB hc0 (fun i hi => out i (by omega))
  have h40 := hB.2.1.2
  have n6 : nat (leavesG g c0) (106 + 21 * c0) = 0 := by unfold nat; rw [v6]; rfl
  have q1 : ∀ k, q_in g (nI t) k c0 = q_in (leavesG g c0) (nI t) k c0 := by
    intro k
    rw [q_in_0 n6]
    unfold q_in
    rw [q_step_none (fun j hj e => ?_)]
    have hb := (hB.2.2.2.2.2 c0 hc0).2.2 j hj
    refine hno j hj ?_
    unfold nat
    rw [e]
    exact nI_clamp (by omega)
  exact tv_of (fun w hw => out _ (by omega)) (fun k => (tri_same h101 hty (fun c h1 h2 => hin _ _ c h1 h2) (q1 k)).1) (fun k => (tri_same h101 hty (fun c h1 h2 => hin _ _ c h1 h2) (q1 k)).2.1) (fun k => (tri_same h101 hty (fun c h1 h2 => hin _ _ c h1 h2) (q1 k)).2.2)
theorem tv_leave_in {g : Nat → Int32} {c0 i : Nat} (hI : IG g) (hc0 : c0 < nat g 101) (hi : i < nat g (106 + 21 * c0)) : ∀ j, j < 4 → tvC (tvOf (leavesG g c0) (nat g (109 + 21 * c0 + i))) j = upd (tvC (tvOf g (nat g (109 + 21 * c0 + i)))) (nat g (116 + 21 * c0 + i)) (if tvU (tvOf g (nat g (109 + 21 * c0 + i))) (nat g (116 + 21 * c0 + i)) - nI 1 = 0 then -1 else g (8 + 6 * nat g (102 + 21 * c0))) j ∧ tvF (tvOf (leavesG g c0) (nat g (109 + 21 * c0 + i))) j = upd (tvF (tvOf g (nat g (109 + 21 * c0 + i)))) (nat g (116 + 21 * c0 + i)) (tvF (tvOf g (nat g (109 + 21 * c0 + i))) (nat g (116 + 21 * c0 + i)) - g (9 + 6 * nat g (102 + 21 * c0))) j ∧ tvU (tvOf (leavesG g c0) (nat g (109 + 21 * c0 + i))) j = upd (tvU (tvOf g (nat g (109 + 21 * c0 + i)))) (nat g (116 + 21 * c0 + i)) (tvU (tvOf g (nat g (109 + 21 * c0 + i))) (nat g (116 + 21 * c0 + i)) - nI 1) j := by
  have hB := hI.1
  obtain ⟨out, v5, v6, v7, v8⟩ := leavesG_v (g := g) (c0 := c0)
  obtain ⟨h101, hty, hin⟩ := ty_same hB hc0 (fun i hi => out i (by omega))
  have h40 := hB.2.1.2
  have hC2 := hB.2.2.1.2
  have hGR := hI.2.2.2.2.2.2.2.2.2.1 c0 hc0
  have hGK := hI.2.2.2.2.2.2.2.2.2.2
  have n6 : nat (leavesG g c0) (106 + 21 * c0) = 0 := by unfold nat; rw [v6]; rfl
  obtain ⟨t1, t2⟩ := (hB.2.2.2.2.2 c0 hc0).2.2 i hi
  have k1 := hGR.2.2 i hi
  obtain ⟨t, htt⟩ : ∃ t, nat g (109 + 21 * c0 + i) = t := ⟨_, rfl⟩
  obtain ⟨k0, hkk⟩ : ∃ k0, nat g (116 + 21 * c0 + i) = k0 := ⟨_, rfl⟩
  have hk4 : k0 < 4 := by
    have h2 := (hB.2.2.2.2.1 _ t2).1.2
    have := k1.2
    omega
  have hqt := q_in_of hGR.2.1 hi
  rw [t1, k1.1, htt, hkk] at hqt
  rw [htt] at t1 t2 ⊢
  rw [hkk]
  have hqf : ∀ k, q_in (leavesG g c0) (nI t) k c0 = false := fun k => q_in_0 n6
  have hsame : ∀ j, j < 4 → j ≠ k0 → q_in g (nI t) (nI j) c0 = false := by
    intro j hj hjk
    cases hq : q_in g (nI t) (nI j) c0 with
    | false => rfl
    | true =>
      exfalso
      unfold q_in at hq hqt
      cases hs : q_step g c0 (nI t) with
      | none => rw [hs] at hq; cases hq
      | some x =>
        rw [hs] at hq hqt
        have e1 := eq_of_beq hq
        have e2 := eq_of_beq hqt
        exact hjk ((nI_eq (by omega) (by omega)).mp (e1.symm.trans e2))
  intro j hj
  by_cases hjk : j = k0
  · rw [hjk, upd_s, upd_s, upd_s]
    obtain ⟨a1, a2⟩ := tri_in (g := leavesG g c0) (g' := g) (t := nI t) (k := nI k0) h101.symm (by rw [h101]; exact hc0) (fun c hc => by rw [h101] at hc; exact ⟨(hty c hc).1.symm, (hty c hc).2.symm⟩) (fun c h1 h2 => by rw [h101] at h1; exact (hin _ _ c h1 h2).symm) (hqf _) hqt
    have eA : g (9 + 6 * nat g (102 + 21 * c0)) = leavesG g c0 (9 + 6 * nat (leavesG g c0) (102 + 21 * c0)) := (hty c0 hc0).2.symm
    refine ⟨?_, ?_, i32_sub a2⟩
    · show q_class (leavesG g c0) (nI t) (nI k0) = if q_cnt g (nI t) (nI k0) - nI 1 = 0 then _ else _
      rw [← i32_sub a2]
      obtain ⟨m, m1, m2, m3⟩ := cnt_0 (P := q_in (leavesG g c0) (nI t) (nI k0)) (nat (leavesG g c0) 101) (by omega)
      have eC : q_cnt (leavesG g c0) (nI t) (nI k0) = nI m := m2
      rw [eC]
      by_cases hm : m = 0
      · rw [hm, if_pos (by rfl)]
        exact (q_none (m3.mp hm)).1
      · rw [if_neg (show ¬ nI m = 0 from fun e => hm ((nI_eq (b := 0) (by omega) (by omega)).mp e))]
        have hex : ∃ c, c < nat (leavesG g c0) 101 ∧ q_in (leavesG g c0) (nI t) (nI k0) c = true := by
          refine Classical.byContradiction (fun h => hm (m3.mpr (fun c hc => ?_)))
          cases hq : q_in (leavesG g c0) (nI t) (nI k0) c with
          | false => rfl
          | true => exact absurd ⟨c, hc, hq⟩ h
        obtain ⟨c, hc, hq⟩ := hex
        have hI' := IG_leaves hI hc0
        rw [q_class_of (GK_2 hI'.2.2.2.2.2.2.2.2.2.2) hc hq]
        rw [h101] at hc
        have hcc : c ≠ c0 := fun e => by rw [e, hqf] at hq; cases hq
        have hq2 : q_in g (nI t) (nI k0) c = true := by rw [← hin _ _ c hc hcc]; exact hq
        have := GK_2 hGK (nI t) (nI k0) c c0 hc hc0 hq2 hqt
        show leavesG g c0 (8 + 6 * nat (leavesG g c0) (102 + 21 * c)) = _
        rw [(hty c hc).1]
        exact this
    · show q_area (leavesG g c0) (nI t) (nI k0) = q_area g (nI t) (nI k0) - _
      rw [eA]
      exact i32_sub a1
  · obtain ⟨a1, a2, a3⟩ := tri_same (t := nI t) (k := nI j) h101 hty (fun c h1 h2 => hin _ _ c h1 h2) ((hsame j hj hjk).trans (hqf _).symm)
    rw [upd_n hjk, upd_n hjk, upd_n hjk]
    exact ⟨a1, a2, a3⟩
