set_option maxRecDepth 100000
/-! WHAT g SAYS OF TRAYS, when g grows -/
theorem q_cnt_ag {g g' : Nat → Int32} (hB : GB g) (hC : Ag g g' 101 354) {t k : Int32} : q_cnt g' t k = q_cnt g t k := by
  have hC2 := hB.2.2.1.2
  unfold q_cnt
  rw [hC.n (i := 101) (by omega) (by omega)]
  exact sumN_cg _ (fun c hc => by rw [q_in_ag hB hC hc])
theorem tv_of {g g' : Nat → Int32} {t : Nat} (h5 : ∀ w, w < 5 → g' (41 + 5 * t + w) = g (41 + 5 * t + w)) (h1 : ∀ k, q_class g' (nI t) k = q_class g (nI t) k) (h2 : ∀ k, q_area g' (nI t) k = q_area g (nI t) k) (h3 : ∀ k, q_cnt g' (nI t) k = q_cnt g (nI t) k) : tvOf g' t = tvOf g t := by
  have e0 := h5 0 (by decide)
  have e1 := h5 1 (by decide)
  have e2 := h5 2 (by decide)
  have e3 := h5 3 (by decide)
  have e4 := h5 4 (by decide)
  rw [show 41 + 5 * t + 0 = 41 + 5 * t by omega] at e0
  rw [show 41 + 5 * t + 1 = 42 + 5 * t by omega] at e1
  rw [show 41 + 5 * t + 2 = 43 + 5 * t by omega] at e2
  rw [show 41 + 5 * t + 3 = 44 + 5 * t by omega] at e3
  rw [show 41 + 5 * t + 4 = 45 + 5 * t by omega] at e4
  unfold tvOf
  rw [e0, e1, e2, e3, nat_eq e4, funext (fun k => h1 (nI k)), funext (fun k => h2 (nI k)), funext (fun k => h3 (nI k))]
theorem tv_ag {g g' : Nat → Int32} {t : Nat} (hB : GB g) (hY : Ag g g' 4 40 ∨ ∀ c, c < nat g 101 → Ag g g' (4 + 6 * nat g (102 + 21 * c)) (10 + 6 * nat g (102 + 21 * c))) (h5 : ∀ w, w < 5 → g' (41 + 5 * t + w) = g (41 + 5 * t + w)) (hC : Ag g g' 101 354) : tvOf g' t = tvOf g t :=
  tv_of h5 (fun _ => q_class_ag hB hY hC) (fun _ => q_area_ag hB hY hC) (fun _ => q_cnt_ag hB hC)
theorem sumN_z {F : Nat → Int32} : ∀ n, (∀ c, c < n → F c = nI 0) → sumN F n = nI 0 := by
  intro n
  induction n with
  | zero => intro _; rfl
  | succ n ih =>
    intro h
    show sumN F n + F n = nI 0
    rw [ih (fun c hc => h c (by omega)), h n (by omega)]
    rfl
/-- no cable lies there -/
theorem q_none {g : Nat → Int32} {t k : Int32} (h : ∀ c, c < nat g 101 → q_in g t k c = false) : q_class g t k = -1 ∧ q_area g t k = nI 0 ∧ q_cnt g t k = nI 0 := by
  refine ⟨?_, sumN_z _ (fun c hc => by rw [h c hc]; rfl), sumN_z _ (fun c hc => by rw [h c hc]; rfl)⟩
  unfold q_class
  rw [find9_isno (fun x _ hx => h x (by omega))]
theorem q_in_far {g : Nat → Int32} (hB : GB g) {n : Nat} (hn : nat g 40 ≤ n) (hn2 : n < 1000) {k : Int32} {c : Nat} (hc : c < nat g 101) : q_in g (nI n) k c = false := by
  cases hq : q_in g (nI n) k c with
  | false => rfl
  | true =>
    obtain ⟨j, h1, h2, h3⟩ := q_in_at hq
    have hb := (hB.2.2.2.2.2 c hc).2.2 j h1
    have h40 := hB.2.1.2
    have e : nat g (109 + 21 * c + j) = n := by unfold nat; rw [h2]; exact nI_clamp (by omega)
    have := hb.2
    omega
/-! a new tray -/
theorem tray_v {g : Nat → Int32} {p q l a k : Int32} (hB : GB g) (hR : nat g 40 < 12) : (trayG g p q l a k) 40 = nI (nat g 40 + 1) ∧ nat (trayG g p q l a k) 40 = nat g 40 + 1 ∧ (∀ i, i ≠ 40 → ¬ (41 + 5 * nat g 40 ≤ i ∧ i < 46 + 5 * nat g 40) → trayG g p q l a k i = g i) ∧ tvOf (trayG g p q l a k) (nat g 40) = (p, q, l, a, k.toNatClampNeg, fun _ => -1, fun _ => nI 0, fun _ => nI 0) ∧ ∀ t, t < nat g 40 → tvOf (trayG g p q l a k) t = tvOf g t := by
  obtain ⟨R, hRe⟩ := ex_val (nat g 40)
  obtain ⟨G, hG⟩ := ex_val (trayG g p q l a k)
  have hC2 := hB.2.2.1.2
  rw [← hG, ← hRe]
  have out : ∀ i, i ≠ 40 → ¬ (41 + 5 * R ≤ i ∧ i < 46 + 5 * R) → G i = g i := by
    intro i h1 h2
    rw [hG]
    unfold trayG
    rw [← hRe, upd_n h1, upd_n (by omega), upd_n (by omega), upd_n (by omega), upd_n (by omega), upd_n (by omega)]
  have v40 : G 40 = nI (R + 1) := by rw [hG]; unfold trayG; rw [upd_s, hRe]
  have v0 : G (41 + 5 * R) = p := by
    rw [hG]; unfold trayG
    rw [← hRe, upd_n (by omega), upd_n (by omega), upd_n (by omega), upd_n (by omega), upd_n (by omega), upd_s]
  have v1 : G (42 + 5 * R) = q := by
    rw [hG]; unfold trayG
    rw [← hRe, upd_n (by omega), upd_n (by omega), upd_n (by omega), upd_n (by omega), show 42 + 5 * R = 41 + 5 * R + 1 by omega, upd_s]
  have v2 : G (43 + 5 * R) = l := by
    rw [hG]; unfold trayG
    rw [← hRe, upd_n (by omega), upd_n (by omega), upd_n (by omega), show 43 + 5 * R = 41 + 5 * R + 2 by omega, upd_s]
  have v3 : G (44 + 5 * R) = a := by
    rw [hG]; unfold trayG
    rw [← hRe, upd_n (by omega), upd_n (by omega), show 44 + 5 * R = 41 + 5 * R + 3 by omega, upd_s]
  have v4 : G (45 + 5 * R) = k := by
    rw [hG]; unfold trayG
    rw [← hRe, upd_n (by omega), show 45 + 5 * R = 41 + 5 * R + 4 by omega, upd_s]
  have agY : Ag g G 4 40 := fun i h1 h2 => out i (by omega) (by omega)
  have agC : Ag g G 101 354 := fun i h1 h2 => out i (by omega) (by omega)
  have hz : ∀ k, q_class G (nI R) k = -1 ∧ q_area G (nI R) k = nI 0 ∧ q_cnt G (nI R) k = nI 0 := by
    intro k
    refine q_none (fun c hc => ?_)
    rw [agC.n (i := 101) (by omega) (by omega)] at hc
    rw [q_in_ag hB agC hc]
    exact q_in_far hB (by omega) (by omega) hc
  refine ⟨v40, (isN_of (b := 20) v40 (by omega) (by omega)).2, out, ?_, fun t ht => tv_ag hB (Or.inl agY) (fun w hw => out _ (by omega) (by omega)) agC⟩
  unfold tvOf
  rw [v0, v1, v2, v3, show nat G (45 + 5 * R) = k.toNatClampNeg by unfold nat; rw [v4], funext (fun k => (hz (nI k)).1), funext (fun k => (hz (nI k)).2.1), funext (fun k => (hz (nI k)).2.2)]
theorem sumN_last {F : Nat → Int32} {n : Nat} (h : F n = nI 0) : sumN F (n + 1) = sumN F n := by
  show sumN F n + F n = _
  rw [h]
  exact Int32.add_zero _
/-! a new cable -/
theorem cable_v {g : Nat → Int32} {y p q : Int32} (hB : GB g) (hR : nat g 101 < 12) : (cableG g y p q) 101 = nI (nat g 101 + 1) ∧ nat (cableG g y p q) 101 = nat g 101 + 1 ∧ (∀ i, i ≠ 101 → ¬ (102 + 21 * nat g 101 ≤ i ∧ i < 123 + 21 * nat g 101) → cableG g y p q i = g i) ∧ (∀ k, k < 7 → cvOf (cableG g y p q) (nat g 101) k = cv0 y p q k) ∧ ∀ t, t < nat g 40 → tvOf (cableG g y p q) t = tvOf g t := by
  obtain ⟨R, hRe⟩ := ex_val (nat g 101)
  obtain ⟨G, hG⟩ := ex_val (cableG g y p q)
  have h40 := hB.2.1.2
  rw [← hG, ← hRe]
  have out : ∀ i, i ≠ 101 → ¬ (102 + 21 * R ≤ i ∧ i < 123 + 21 * R) → G i = g i := by
    intro i h1 h2
    rw [hG]
    unfold cableG
    rw [← hRe, upd_n h1, upd_n (by omega), upd_n (by omega), upd_n (by omega), upd_n (by omega)]
    unfold zeroC
    rw [if_neg (by omega)]
  have v101 : G 101 = nI (R + 1) := by rw [hG]; unfold cableG; rw [upd_s, hRe]
  have n101 : nat G 101 = R + 1 := (isN_of (b := 20) v101 (by omega) (by omega)).2
  have inn : ∀ k, k < 21 → G (102 + 21 * R + k) = cv0 y p q k := by
    intro k hk
    rw [hG]
    unfold cableG cv0
    rw [← hRe, upd_n (by omega)]
    by_cases k6 : k = 6
    · subst k6
      rw [upd_s]
      rfl
    · rw [upd_n (by omega)]
      by_cases k2 : k = 2
      · subst k2
        rw [upd_s]
        rfl
      · rw [upd_n (by omega)]
        by_cases k1 : k = 1
        · subst k1
          rw [upd_s]
          rfl
        · rw [upd_n (by omega)]
          by_cases k0 : k = 0
          · subst k0
            rw [upd_s]
            rfl
          · rw [upd_n (by omega), if_neg k0, if_neg k1, if_neg k2, if_neg k6]
            unfold zeroC
            rw [if_pos (by omega)]
            rfl
  have z6 : nat G (106 + 21 * R) = 0 := by
    have := inn 4 (by decide)
    rw [show 102 + 21 * R + 4 = 106 + 21 * R by omega] at this
    unfold nat
    rw [this]
    rfl
  have qin : ∀ t k c, c < R → q_in G t k c = q_in g t k c := by
    intro t k c hc
    have h8 := (hB.2.2.2.2.2 c (by omega)).2.1.2
    exact q_in_c h8 (out _ (by omega) (by omega)) (fun w h1 h2 => out _ (by omega) (by omega))
  have q0 : ∀ t k, q_in G t k R = false := fun t k => q_in_0 z6
  have ty : ∀ c, c < R → nat G (102 + 21 * c) = nat g (102 + 21 * c) := fun c hc => nat_eq (out _ (by omega) (by omega))
  have tyl : ∀ c, c < R → nat g (102 + 21 * c) < 6 := fun c hc => by
    have h1 := (hB.2.2.2.2.2 c (by omega)).1.2
    have h2 := hB.1.2
    omega
  refine ⟨v101, n101, out, fun k hk => inn k (by omega), fun t ht => tv_of (fun w hw => out _ (by omega) (by omega)) (fun k => ?_) (fun k => ?_) (fun k => ?_)⟩
  · unfold q_class
    rw [n101, f9_ext (p := q_in g (nI t) k) (i := 0) (k := R) (fun x _ hx => qin _ _ x (by omega)) (Or.inl (by rw [Nat.zero_add]; exact q0 _ _)), ← hRe]
    cases hf : find9 (q_in g (nI t) k) 0 R with
    | none => rfl
    | some c =>
      dsimp only
      have hc := (find9_lt hf).2.1
      rw [ty c (by omega), out _ (by have := tyl c (by omega); omega) (by have := tyl c (by omega); omega)]
  · unfold q_area
    rw [n101, ← hRe]
    refine (sumN_last (by show (if q_in G (nI t) k R = true then _ else _) = _; rw [q0]; rfl)).trans ?_
    have e : sumN (fun c => if q_in G (nI t) k c = true then G (9 + 6 * nat G (102 + 21 * c)) else nI 0) R = sumN (fun c => if q_in g (nI t) k c = true then g (9 + 6 * nat g (102 + 21 * c)) else nI 0) R := sumN_cg _ (fun c hc => by rw [qin _ _ c hc, ty c hc, out _ (by have := tyl c hc; omega) (by have := tyl c hc; omega)])
    exact e
  · unfold q_cnt
    rw [n101, ← hRe]
    refine (sumN_last (by show (if q_in G (nI t) k R = true then _ else _) = _; rw [q0]; rfl)).trans ?_
    have e : sumN (fun c => if q_in G (nI t) k c = true then nI 1 else nI 0) R = sumN (fun c => if q_in g (nI t) k c = true then nI 1 else nI 0) R := sumN_cg _ (fun c hc => by rw [qin _ _ c hc])
    exact e
/-! a new drum -/
theorem drum_v {g : Nat → Int32} {y r : Int32} (hB : GB g) (hR : nat g 354 < 10) : (drumG g y r) 354 = nI (nat g 354 + 1) ∧ nat (drumG g y r) 354 = nat g 354 + 1 ∧ (∀ i, i ≠ 354 → ¬ (355 + 3 * nat g 354 ≤ i ∧ i < 358 + 3 * nat g 354) → drumG g y r i = g i) ∧ (dvOf (drumG g y r) (nat g 354) 0 = y ∧ dvOf (drumG g y r) (nat g 354) 1 = r ∧ dvOf (drumG g y r) (nat g 354) 2 = r) ∧ ∀ t, t < nat g 40 → tvOf (drumG g y r) t = tvOf g t := by
  obtain ⟨R, hRe⟩ := ex_val (nat g 354)
  obtain ⟨G, hG⟩ := ex_val (drumG g y r)
  have h40 := hB.2.1.2
  rw [← hG, ← hRe]
  have out : ∀ i, i ≠ 354 → ¬ (355 + 3 * R ≤ i ∧ i < 358 + 3 * R) → G i = g i := by
    intro i h1 h2
    rw [hG]
    unfold drumG
    rw [← hRe, upd_n h1, upd_n (by omega), upd_n (by omega), upd_n (by omega)]
  have v : G 354 = nI (R + 1) := by rw [hG]; unfold drumG; rw [upd_s, hRe]
  refine ⟨v, (isN_of (b := 20) v (by omega) (by omega)).2, out, ⟨?_, ?_, ?_⟩, fun t ht => tv_ag hB (Or.inl (fun i h1 h2 => out _ (by omega) (by omega))) (fun w hw => out _ (by omega) (by omega)) (fun i h1 h2 => out _ (by omega) (by omega))⟩
  · unfold dvOf
    rw [hG]
    unfold drumG
    rw [← hRe, upd_n (by omega), upd_n (by omega), upd_n (by omega)]
    exact upd_s
  · unfold dvOf
    rw [hG]
    unfold drumG
    rw [← hRe, upd_n (by omega), upd_n (by omega), upd_s]
  · unfold dvOf
    rw [hG]
    unfold drumG
    rw [← hRe, upd_n (by omega), upd_s]
/-! a new type -/
theorem type_v {g : Nat → Int32} {it : Itm} (hB : GB g) (hR : nat g 3 < 6) : (typeG g it) 3 = nI (nat g 3 + 1) ∧ nat (typeG g it) 3 = nat g 3 + 1 ∧ (∀ i, i ≠ 3 → ¬ (4 + 6 * nat g 3 ≤ i ∧ i < 10 + 6 * nat g 3) → typeG g it i = g i) ∧ ((∀ i, i < 3 → typeG g it (4 + 6 * nat g 3 + i) = nI (it.2.1.getD i 0)) ∧ typeG g it (7 + 6 * nat g 3) = nI it.2.1.length ∧ typeG g it (8 + 6 * nat g 3) = nI (it.2.2.getD 0 0) ∧ typeG g it (9 + 6 * nat g 3) = nI (it.2.2.getD 1 0)) ∧ ∀ t, t < nat g 40 → tvOf (typeG g it) t = tvOf g t := by
  obtain ⟨R, hRe⟩ := ex_val (nat g 3)
  obtain ⟨G, hG⟩ := ex_val (typeG g it)
  have h40 := hB.2.1.2
  rw [← hG, ← hRe]
  have out : ∀ i, i ≠ 3 → ¬ (4 + 6 * R ≤ i ∧ i < 10 + 6 * R) → G i = g i := by
    intro i h1 h2
    rw [hG]
    unfold typeG
    rw [← hRe, upd_n h1, upd_n (by omega), upd_n (by omega), upd_n (by omega), upd_n (by omega), upd_n (by omega), upd_n (by omega)]
  have v : G 3 = nI (R + 1) := by rw [hG]; unfold typeG; rw [upd_s, hRe]
  have agT : ∀ c, c < nat g 101 → Ag g G (4 + 6 * nat g (102 + 21 * c)) (10 + 6 * nat g (102 + 21 * c)) := by
    intro c hc i h1 h2
    have h3 := (hB.2.2.2.2.2 c hc).1.2
    exact out _ (by omega) (by omega)
  refine ⟨v, (isN_of (b := 20) v (by omega) (by omega)).2, out, ⟨fun i hi => ?_, ?_, ?_, ?_⟩, fun t ht => tv_ag hB (Or.inr agT) (fun w hw => out _ (by omega) (by omega)) (fun i h1 h2 => out _ (by omega) (by omega))⟩
  · rw [hG]
    unfold typeG
    rw [← hRe, upd_n (by omega), upd_n (by omega), upd_n (by omega), upd_n (by omega)]
    by_cases i2 : i = 2
    · subst i2
      rw [upd_s]
    · rw [upd_n (by omega)]
      by_cases i1 : i = 1
      · subst i1
        rw [upd_s]
      · rw [upd_n (by omega), show i = 0 by omega, upd_s]
  · rw [hG]
    unfold typeG
    rw [← hRe, upd_n (by omega), upd_n (by omega), upd_n (by omega), show 7 + 6 * R = 4 + 6 * R + 3 by omega, upd_s]
  · rw [hG]
    unfold typeG
    rw [← hRe, upd_n (by omega), upd_n (by omega), show 8 + 6 * R = 4 + 6 * R + 4 by omega, upd_s]
  · rw [hG]
    unfold typeG
    rw [← hRe, upd_n (by omega), show 9 + 6 * R = 4 + 6 * R + 5 by omega, upd_s]
/-! parts said otherwise -/
section
variable {G : Gl} {H : AH} {O : Nat → Nat} {l L n : Nat}
theorem TrX.to {tv tv' : Nat → TV} {e : Nat} {tr tc tf tu : Nat → Nat} (h : TrX G H O l L n tv e tr tc tf tu) (hv : ∀ t, t < n → tv' t = tv t) : TrX G H O l L n tv' e tr tc tf tu := by
  obtain ⟨a1, a2, a3, a4, a5⟩ := h
  exact ⟨a1, a2, a3, fun t ht => by rw [hv t ht]; exact a4 t ht, a5⟩
theorem CaX.to {cv cv' : Nat → Nat → Int32} {e : Nat} {ca rl re : Nat → Nat} {st : Nat → Nat → Nat} (h : CaX G H O l L n cv e ca rl re st) (hv : ∀ c k, c < n → k < 21 → cv' c k = cv c k) : CaX G H O l L n cv' e ca rl re st := by
  obtain ⟨a1, a2, a3, a4, a5, a6⟩ := h
  refine ⟨a1, a2, a3, fun c hc => ?_, a5, a6⟩
  obtain ⟨b1, b2, b3, b4⟩ := a4 c hc
  rw [hv c 4 hc (by decide)]
  have h7 := b1.2.2.1
  exact ⟨b1.to (fun k hk => (hv c k hc (by omega)).symm) (fun i hi => ⟨(hv c _ hc (by omega)).symm, (hv c _ hc (by omega)).symm⟩), b2, b3, b4⟩
theorem DrX.to {dv dv' : Nat → Nat → Int32} {e : Nat} {dr : Nat → Nat} (h : DrX G H O l L n dv e dr) (hv : ∀ x k, x < n → k < 3 → dv' x k = dv x k) : DrX G H O l L n dv' e dr := by
  obtain ⟨a1, a2, a3, a4, a5⟩ := h
  exact ⟨a1, a2, a3, fun x hx => by rw [hv x 0 hx (by decide), hv x 1 hx (by decide), hv x 2 hx (by decide)]; exact a4 x hx, a5⟩
end
