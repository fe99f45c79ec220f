set_option maxRecDepth 100000
/-! THE PLANNER'S STATE -/
theorem IsPlan.pos {G : Gl} {H : AH} {O : Nat → Nat} {t p : Nat} {g : Nat → Int32} (h : IsPlan G H O t p g) : 1 ≤ t ∧ kd H p = 2 ∧ O p = 8 * t + 1 := by
  obtain ⟨A, h0, h1, -⟩ := h
  exact ⟨h0, h1.1.1, h1.2⟩
/-- where the things of a planner are: the deque, its array, its head; the plans to undo: tokens, objects; the token of the saved plan -/
abbrev ZY : Type := Nat × Nat × Nat × (Nat → Nat) × (Nat → Nat) × Nat
abbrev ZY.D (Y : ZY) : Nat := Y.1
abbrev ZY.e (Y : ZY) : Nat := Y.2.1
abbrev ZY.h (Y : ZY) : Nat := Y.2.2.1
abbrev ZY.ts (Y : ZY) : Nat → Nat := Y.2.2.2.1
abbrev ZY.xs (Y : ZY) : Nat → Nat := Y.2.2.2.2.1
abbrev ZY.tv (Y : ZY) : Nat := Y.2.2.2.2.2
/-- what can be undone -/
def UnZ (G : Gl) (H : AH) (O : Nat → Nat) (pn : Nat) (Y : ZY) (L : List (Nat → Int32)) : Prop := gR H 2 pn = some Y.D ∧ DQ G H Y.D L.length Y.xs Y.e Y.h ∧ O Y.D = 5 ∧ O Y.e = 5 ∧ ∀ i, i < L.length → IsPlan G H O (Y.ts i) (Y.xs i) (L.getD i z0)
/-- what is saved -/
def SvZ (G : Gl) (H : AH) (O : Nat → Nat) (pn tv : Nat) (K : Option (Nat → Int32)) : Prop := (K = none ∧ gR H 3 pn = none) ∨ ∃ gs ps, K = some gs ∧ gR H 3 pn = some ps ∧ IsPlan G H O tv ps gs
/-- all tokens differ -/
def TkZ (t : Nat) (Y : ZY) (n : Nat) (K : Option (Nat → Int32)) : Prop := (∀ i, i < n → t ≠ Y.ts i) ∧ (∀ i j, i < n → j < n → Y.ts i = Y.ts j → i = j) ∧ (K ≠ none → t ≠ Y.tv ∧ ∀ i, i < n → Y.tv ≠ Y.ts i)
/-- the text typed -/
def InZ (H : AH) (O : Nat → Nat) (pn : Nat) (B : List Nat) : Prop := ∃ a v, gR H 4 pn = some a ∧ SB H a B.length (fun i => B.getD i 0) v ∧ O a = 5 ∧ O v = 5
/-- an error kept -/
def ErZ (H : AH) (O : Nat → Nat) (pn f k fn : Nat) (w : Option Nat) : Prop := (w = none ∧ gR H f pn = none) ∨ ∃ n a, w = some n ∧ gR H f pn = some a ∧ kd H a = k ∧ gI H fn a = nI n ∧ O a = 5
/-- the chain kept -/
def ChZ (H : AH) (O : Nat → Nat) (pn : Nat) (Ch : List Int32) : Prop := (Ch = [] ∧ gR H 7 pn = none) ∨ ∃ a, Ch ≠ [] ∧ gR H 7 pn = some a ∧ kd H a = 1007 ∧ ln H a = Ch.length ∧ (∀ i, i < Ch.length → gA H 1007 a i = Ch.getD i 0) ∧ O a = 5 ∧ Ch.length ≤ 16
/-- a planner but its plan -/
def CoZ (G : Gl) (H : AH) (O : Nat → Nat) (pn t : Nat) (Y : ZY) (L : List (Nat → Int32)) (K : Option (Nat → Int32)) (B : List Nat) (w r : Option Nat) (Ch : List Int32) : Prop := kd H pn = 1 ∧ O pn = 5 ∧ UnZ G H O pn Y L ∧ SvZ G H O pn Y.tv K ∧ TkZ t Y L.length K ∧ InZ H O pn B ∧ ErZ H O pn 5 15 60 w ∧ ErZ H O pn 6 18 67 r ∧ ChZ H O pn Ch
/-- a planner -/
def CoR (G : Gl) (H : AH) (O : Nat → Nat) (pn : Nat) (g : Nat → Int32) (L : List (Nat → Int32)) (K : Option (Nat → Int32)) (B : List Nat) (w r : Option Nat) (Ch : List Int32) : Prop := ∃ t p Y, gR H 1 pn = some p ∧ IsPlan G H O t p g ∧ CoZ G H O pn t Y L K B w r Ch
section State
variable {G : Gl} {H H' : AH} {O O' : Nat → Nat} {S : Nat → Prop} {pn p t : Nat} {Y : ZY} {L : List (Nat → Int32)} {K : Option (Nat → Int32)} {B : List Nat} {w r : Option Nat} {Ch : List Int32} {g : Nat → Int32}
theorem UnZ.ks (h : UnZ G H O pn Y L) (hs : Stq G S H O H' O') (hp : gR H' 2 pn = gR H 2 pn) (h1 : ¬ S Y.D) (h2 : ¬ S Y.e) (hl : ∀ i, i < L.length → ∀ a, kd H a ≠ 0 → S a → O a ≠ 0 ∧ (O a = 6 → gI H 115 a = 0) ∧ O a / 8 ≠ Y.ts i) : UnZ G H' O' pn Y L := by
  obtain ⟨a1, a2, a3, a4, a5⟩ := h
  exact ⟨hp.trans a1, a2.ks hs.1 h1 h2, by rw [hs.2.1 _ (by rw [a2.1]; decide)]; exact a3, by rw [hs.2.1 _ (by rw [a2.2.2.1]; decide)]; exact a4, fun i hi => (a5 i hi).ks hs (hl i hi)⟩
theorem SvZ.ks {tv : Nat} (h : SvZ G H O pn tv K) (hs : Stq G S H O H' O') (hp : gR H' 3 pn = gR H 3 pn) (hl : K ≠ none → ∀ a, kd H a ≠ 0 → S a → O a ≠ 0 ∧ (O a = 6 → gI H 115 a = 0) ∧ O a / 8 ≠ tv) : SvZ G H' O' pn tv K := by
  rcases h with ⟨h1, h2⟩ | ⟨gs, ps, h1, h2, h3⟩
  · exact Or.inl ⟨h1, hp.trans h2⟩
  · exact Or.inr ⟨gs, ps, h1, hp.trans h2, h3.ks hs (hl (by rw [h1]; exact fun q => by cases q))⟩
theorem InZ.ks (h : InZ H O pn B) (hk : Ks S H H') (ho : ∀ a, kd H a ≠ 0 → O' a = O a) (hp : gR H' 4 pn = gR H 4 pn) (hS : ∀ b, O b = 5 → kd H b = 23 ∨ kd H b = 2109 → ¬ S b) : InZ H' O' pn B := by
  obtain ⟨a, v, h1, h2, h3, h4⟩ := h
  have ka : kd H a = 23 := h2.1
  have kv : kd H v = 2109 := h2.2.2.2.2.1.1
  exact ⟨a, v, hp.trans h1, h2.ks hk (hS a h3 (Or.inl ka)) (hS v h4 (Or.inr kv)), by rw [ho a (by rw [ka]; decide)]; exact h3, by rw [ho v (by rw [kv]; decide)]; exact h4⟩
theorem ErZ.ks {f k fn : Nat} (h : ErZ H O pn f k fn w) (hk : Ks S H H') (ho : ∀ a, kd H a ≠ 0 → O' a = O a) (hk0 : k ≠ 0) (hp : gR H' f pn = gR H f pn) (hS : ∀ b, O b = 5 → kd H b = k → ¬ S b) : ErZ H' O' pn f k fn w := by
  rcases h with ⟨h1, h2⟩ | ⟨n, a, h1, h2, h3, h4, h5⟩
  · exact Or.inl ⟨h1, hp.trans h2⟩
  · have e := hk.at (a := a) (by rw [h3]; exact hk0) (hS a h5 h3)
    exact Or.inr ⟨n, a, h1, hp.trans h2, by rw [at_kd e]; exact h3, by rw [at_gI e]; exact h4, by rw [ho a (by rw [h3]; exact hk0)]; exact h5⟩
theorem ChZ.ks (h : ChZ H O pn Ch) (hk : Ks S H H') (ho : ∀ a, kd H a ≠ 0 → O' a = O a) (hp : gR H' 7 pn = gR H 7 pn) (hS : ∀ b, O b = 5 → kd H b = 1007 → ¬ S b) : ChZ H' O' pn Ch := by
  rcases h with ⟨h1, h2⟩ | ⟨a, h1, h2, h3, h4, h5, h6, h7⟩
  · exact Or.inl ⟨h1, hp.trans h2⟩
  · have e := hk.at (a := a) (by rw [h3]; decide) (hS a h6 h3)
    exact Or.inr ⟨a, h1, hp.trans h2, by rw [at_kd e]; exact h3, by rw [at_ln e]; exact h4, fun i hi => by rw [at_gA e]; exact h5 i hi, by rw [ho a (by rw [h3]; decide)]; exact h6, h7⟩
/-- what touches no planner's own thing and only the plan t -/
theorem CoZ.ks (h : CoZ G H O pn t Y L K B w r Ch) (hs : Stq G S H O H' O') (hl : ∀ a, kd H a ≠ 0 → S a → O a ≠ 5 ∧ O a ≠ 0 ∧ (O a = 6 → gI H 115 a = 0) ∧ (8 ≤ O a → O a / 8 = t)) : CoZ G H' O' pn t Y L K B w r Ch := by
  obtain ⟨a1, a2, a3, a4, a5, a6, a7, a8, a9⟩ := h
  have n5 : ∀ b, kd H b ≠ 0 → O b = 5 → ¬ S b := fun b hb h5 q => (hl b hb q).1 h5
  have e := hs.1.at (a := pn) (by rw [a1]; decide) (n5 pn (by rw [a1]; decide) a2)
  have tk : ∀ u, 1 ≤ u → t ≠ u → ∀ a, kd H a ≠ 0 → S a → O a ≠ 0 ∧ (O a = 6 → gI H 115 a = 0) ∧ O a / 8 ≠ u := by
    intro u hu htu a ha q
    obtain ⟨q1, q2, q3, q4⟩ := hl a ha q
    refine ⟨q2, q3, fun e9 => ?_⟩
    by_cases h8 : 8 ≤ O a
    · exact htu ((q4 h8).symm.trans e9)
    · omega
  obtain ⟨b1, b2, b3⟩ := a5
  refine ⟨by rw [at_kd e]; exact a1, by rw [hs.2.1 _ (by rw [a1]; decide)]; exact a2, a3.ks hs (at_gR e 2) (n5 _ (by rw [a3.2.1.1]; decide) a3.2.2.1) (n5 _ (by rw [a3.2.1.2.2.1]; decide) a3.2.2.2.1) (fun i hi => tk _ (a3.2.2.2.2 i hi).pos.1 (b1 i hi)), ?_, ⟨b1, b2, b3⟩, a6.ks hs.1 hs.2.1 (at_gR e 4) (fun b h5 k => n5 b (by omega) h5), a7.ks hs.1 hs.2.1 (by decide) (at_gR e 5) (fun b h5 k => n5 b (by omega) h5), a8.ks hs.1 hs.2.1 (by decide) (at_gR e 6) (fun b h5 k => n5 b (by omega) h5), a9.ks hs.1 hs.2.1 (at_gR e 7) (fun b h5 k => n5 b (by omega) h5)⟩
  rcases a4 with ⟨h1, h2⟩ | ⟨gs, ps, h1, h2, h3⟩
  · exact Or.inl ⟨h1, (at_gR e 3).trans h2⟩
  · have hK : K ≠ none := by rw [h1]; exact fun q => by cases q
    exact Or.inr ⟨gs, ps, h1, (at_gR e 3).trans h2, h3.ks hs (tk _ h3.pos.1 (b3 hK).1)⟩
theorem CoZ.k0 (h : CoZ G H O pn t Y L K B w r Ch) (hs : Stq G (fun _ => False) H O H' O') : CoZ G H' O' pn t Y L K B w r Ch := h.ks hs (fun _ _ q => q.elim)
theorem CoR.k0 (h : CoR G H O pn g L K B w r Ch) (hs : Stq G (fun _ => False) H O H' O') : CoR G H' O' pn g L K B w r Ch := by
  obtain ⟨t, p, Y, h1, h2, h3⟩ := h
  have e := hs.1.at (a := pn) (by rw [h3.1]; decide) (fun h => h)
  exact ⟨t, p, Y, (at_gR e 1).trans h1, h2.ks hs (fun _ _ q => q.elim), h3.k0 hs⟩
/-- a fresh token is greater than all tokens -/
theorem CoZ.tok {T : Nat} (h : CoZ G H O pn t Y L K B w r Ch) (hp : IsPlan G H O t p g) (hT : ∀ a, kd H a ≠ 0 → O a < 8 * T) : t < T ∧ (∀ i, i < L.length → Y.ts i < T) ∧ (K ≠ none → Y.tv < T) := by
  have lt : ∀ {u x : Nat} {f : Nat → Int32}, IsPlan G H O u x f → u < T := by
    intro u x f q
    obtain ⟨q1, q2, q3⟩ := q.pos
    have := hT x (by rw [q2]; decide)
    omega
  obtain ⟨a1, a2, a3, a4, a5, a6, a7, a8, a9⟩ := h
  refine ⟨lt hp, fun i hi => lt (a3.2.2.2.2 i hi), fun hK => ?_⟩
  rcases a4 with ⟨h1, h2⟩ | ⟨gs, ps, h1, h2, h3⟩
  · exact absurd h1 hK
  · exact lt h3
end State
/-- what a planner's method may touch -/
def SC (O : Nat → Nat) (b : Nat) : Prop := O b = 5 ∨ 8 ≤ O b
section Keep
variable {G : Gl} {d : Nat} {Qr : Option AV → AH → Prop} {Qx : String → Nat → AH → Prop} {H : AH} {O : Nat → Nat} {pn p t : Nat} {Y : ZY} {L : List (Nat → Int32)} {K : Option (Nat → Int32)} {B : List Nat} {w r : Option Nat} {Ch : List Int32} {g : Nat → Int32}
theorem getD_app {α : Type} {l : List α} {x z : α} {i : Nat} (hi : i ≤ l.length) : (l ++ [x]).getD i z = if i < l.length then l.getD i z else x := by
  by_cases h : i < l.length
  · rw [if_pos h]
    simp only [List.getD]
    rw [List.getElem?_append_left h]
  · rw [if_neg h]
    simp only [List.getD]
    rw [List.getElem?_append_right (by omega), show i - l.length = 0 by omega]
    rfl
theorem getD_tail {α : Type} {l : List α} {z : α} {i : Nat} : l.tail.getD i z = l.getD (i + 1) z := by
  cases l with
  | nil => rfl
  | cons a l => rfl
theorem keepL_len {L : List (Nat → Int32)} {r : Nat → Int32} : (keepL L r).length = if L.length = 8 then 8 else L.length + 1 := by
  unfold keepL
  split
  · rename_i h
    simp [h]
  · simp
theorem keepL_at {L : List (Nat → Int32)} {r : Nat → Int32} {i : Nat} (hi : i < (keepL L r).length) : (keepL L r).getD i z0 = if L.length = 8 then (if i < 7 then L.getD (i + 1) z0 else r) else (if i < L.length then L.getD i z0 else r) := by
  rw [keepL_len] at hi
  unfold keepL
  by_cases h : L.length = 8
  · rw [if_pos h] at hi
    rw [if_pos h, if_pos h, getD_app (by simp [h]; omega), getD_tail]
    simp [h]
  · rw [if_neg h] at hi
    rw [if_neg h, if_neg h, getD_app (by omega)]
theorem co_keep {q t' : Nat} {gq : Nat → Int32} (hd : 4 ≤ d) (hZ : CoZ G H O pn t Y L K B w r Ch) (hq : IsPlan G H O t' q gq) (hne : t' ≠ t) (hts : ∀ i, i < L.length → t' ≠ Y.ts i) (htv : K ≠ none → t' ≠ Y.tv) (hQ : ∀ H' Y', Stq G (fun b => O b = 5) H O H' O → (∀ a, kd H a ≠ 22 → kd H a ≠ 4106 → kd H a ≠ 0 → At H' a = At H a) → CoZ G H' O pn t Y' (keepL L gq) K B w r Ch → Qr none H') : AMet G d 0 0 yX1_keep wX1_keep H [vR (some pn), vR (some q)] Qr Qx := by
  obtain ⟨a1, a2, ⟨u1, u2, u3, u4, u5⟩, a4, ⟨k1, k2, k3⟩, a6, a7, a8, a9⟩ := hZ
  obtain ⟨q1, q2, q3⟩ := hq.pos
  have kD := u2.1
  have ke := u2.2.2.1
  have hn8 := u2.2.2.2.2.2.2.2.1
  -- what is left as it was
  have fin : ∀ (H' : AH) (xs' ts' : Nat → Nat) (h' : Nat), Ks (SL Y.D Y.e) H H' → kd H' (gSt G 1) = 0 → DQ G H' Y.D (keepL L gq).length xs' Y.e h' → (∀ i, i < (keepL L gq).length → (xs' i = q ∧ ts' i = t' ∧ (keepL L gq).getD i z0 = gq) ∨ ∃ j, j < L.length ∧ xs' i = Y.xs j ∧ ts' i = Y.ts j ∧ (keepL L gq).getD i z0 = L.getD j z0) → (∀ i j, i < (keepL L gq).length → j < (keepL L gq).length → ts' i = ts' j → i = j) → Qr none H' := by
    intro H' xs' ts' h' hK z hD hel hinj
    have s : Stq G (fun b => O b = 5) H O H' O := Stq.of (hK.mono (fun b _ q => q.elim (fun e => by rw [e]; exact u3) (fun e => by rw [e]; exact u4))) z
    have nsl : ∀ b, kd H b ≠ 22 → kd H b ≠ 4106 → ¬ SL Y.D Y.e b := fun b h1 h2 q => q.elim (fun e => h1 (by rw [e]; exact kD)) (fun e => h2 (by rw [e]; exact ke))
    have ep := hK.at (a := pn) (by rw [a1]; decide) (nsl pn (by rw [a1]; decide) (by rw [a1]; decide))
    have s5 : ∀ {u x : Nat} {f : Nat → Int32}, IsPlan G H O u x f → IsPlan G H' O u x f := fun hp => hp.ks s (fun a _ e => ⟨by rw [e]; decide, fun e6 => by rw [e] at e6; omega, by rw [e]; have := hp.pos.1; omega⟩)
    refine hQ H' (Y.D, Y.e, h', ts', xs', Y.tv) s (fun a h1 h2 h3 => hK.at h3 (nsl a h1 h2)) ⟨by rw [at_kd ep]; exact a1, a2, ⟨(at_gR ep 2).trans u1, hD, u3, u4, fun i hi => ?_⟩, ?_, ⟨fun i hi => ?_, hinj, fun hKn => ⟨(k3 hKn).1, fun i hi => ?_⟩⟩, a6.ks hK (fun _ _ => rfl) (at_gR ep 4) (fun b _ k => nsl b (by omega) (by omega)), a7.ks hK (fun _ _ => rfl) (by decide) (at_gR ep 5) (fun b _ k => nsl b (by omega) (by omega)), a8.ks hK (fun _ _ => rfl) (by decide) (at_gR ep 6) (fun b _ k => nsl b (by omega) (by omega)), a9.ks hK (fun _ _ => rfl) (at_gR ep 7) (fun b _ k => nsl b (by omega) (by omega))⟩
    · show IsPlan G H' O (ts' i) (xs' i) ((keepL L gq).getD i z0)
      rcases hel i hi with ⟨e1, e2, e3⟩ | ⟨j, hj, e1, e2, e3⟩
      · rw [e1, e2, e3]
        exact s5 hq
      · rw [e1, e2, e3]
        exact s5 (u5 j hj)
    · rcases a4 with ⟨h1, h2⟩ | ⟨gs, ps, h1, h2, h3⟩
      · exact Or.inl ⟨h1, (at_gR ep 3).trans h2⟩
      · exact Or.inr ⟨gs, ps, h1, (at_gR ep 3).trans h2, s5 h3⟩
    · show t ≠ ts' i
      rcases hel i hi with ⟨e1, e2, e3⟩ | ⟨j, hj, e1, e2, e3⟩
      · rw [e2]
        exact hne.symm
      · rw [e2]
        exact k1 j hj
    · show Y.tv ≠ ts' i
      rcases hel i hi with ⟨e1, e2, e3⟩ | ⟨j, hj, e1, e2, e3⟩
      · rw [e2]
        exact (htv hKn).symm
      · rw [e2]
        exact (k3 hKn).2 j hj
  refine AMet.of (M := mX1_keep) (maxL := 3) (by first | rfl | decide +kernel) rfl (Nat.le_of_ble_eq_true rfl) ?_
  show AW mX1_keep _ _ _ _ _ _ _ 0 [some (vR (some pn)), some (vR (some q)), none] []
  refine r_aload_n (i := 0) dX1_keep_0 rfl rfl ?_
  refine r_getR dX1_keep_1 fR_X1_44 (by first | assumption | (simp only [kd_sI, kd_sR, kd_sA, kd_sQ, kd_sL, kd_sD, ln_sI, ln_sR, ln_sA, ln_sQ, ln_sL, ln_sD, gI_sR, gI_sA, gI_sQ, gI_sL, gI_sD, gR_sI, gR_sA, gR_sQ, gR_sL, gR_sD, gA_sI, gA_sR, gA_sQ, gA_sL, gA_sD, gQ_sI, gQ_sR, gQ_sA, gQ_sL, gQ_sD, gL_sI, gL_sR, gL_sA, gL_sQ, gL_sD]; assumption) | simp [kd_sI, kd_sR, kd_sA, kd_sQ, kd_sL, kd_sD, ln_sI, ln_sR, ln_sA, ln_sQ, ln_sL, ln_sD, gI_sR, gI_sA, gI_sQ, gI_sL, gI_sD, gR_sI, gR_sA, gR_sQ, gR_sL, gR_sD, gA_sI, gA_sR, gA_sQ, gA_sL, gA_sD, gQ_sI, gQ_sR, gQ_sA, gQ_sL, gQ_sD, gL_sI, gL_sR, gL_sA, gL_sQ, gL_sD, kd_nO, kd_nA, *]) (by first | assumption | exact gI_sIs | exact gR_sRs | with_reducible rfl | (simp only [kd_sI, kd_sR, kd_sA, kd_sQ, kd_sL, kd_sD, ln_sI, ln_sR, ln_sA, ln_sQ, ln_sL, ln_sD, gI_sR, gI_sA, gI_sQ, gI_sL, gI_sD, gR_sI, gR_sA, gR_sQ, gR_sL, gR_sD, gA_sI, gA_sR, gA_sQ, gA_sL, gA_sD, gQ_sI, gQ_sR, gQ_sA, gQ_sL, gQ_sD, gL_sI, gL_sR, gL_sA, gL_sQ, gL_sD]; first | done | assumption | with_reducible rfl) | rfl) ?_
  refine r_callV (As := []) (mc' := 0) (ms' := 0) dX1_keep_4 k_X1_55 rfl (by first | assumption | (simp only [kd_sI, kd_sR, kd_sA, kd_sQ, kd_sL, kd_sD, ln_sI, ln_sR, ln_sA, ln_sQ, ln_sL, ln_sD, gI_sR, gI_sA, gI_sQ, gI_sL, gI_sD, gR_sI, gR_sA, gR_sQ, gR_sL, gR_sD, gA_sI, gA_sR, gA_sQ, gA_sL, gA_sD, gQ_sI, gQ_sR, gQ_sA, gQ_sL, gQ_sD, gL_sI, gL_sR, gL_sA, gL_sQ, gL_sD]; assumption) | simp [kd_sI, kd_sR, kd_sA, kd_sQ, kd_sL, kd_sD, ln_sI, ln_sR, ln_sA, ln_sQ, ln_sL, ln_sD, gI_sR, gI_sA, gI_sQ, gI_sL, gI_sD, gR_sI, gR_sA, gR_sQ, gR_sL, gR_sD, gA_sI, gA_sR, gA_sQ, gA_sL, gA_sD, gQ_sI, gQ_sR, gQ_sA, gQ_sL, gQ_sD, gL_sI, gL_sR, gL_sA, gL_sQ, gL_sD, kd_nO, kd_nA, *]) (T := TJ5) (N := 3) rfl (by first | assumption | omega) (by first | assumption | omega) (by first | assumption | omega) (Nat.le_of_ble_eq_true rfl) ?_
  refine s_dqSize (by omega) u2 ?_
  show AW mX1_keep G d Qr Qx _ _ H 7 _ _
  by_cases h8 : L.length = 8
  · refine r_bipush (v := nI 8) dX1_keep_7 (by decide) ?_
    refine r_icmp_ne (tgt := 23) dX1_keep_9 (by decide) (fun h9 => ?_) (fun h9 => ?_)
    · exact absurd (by rw [h8]) h9
    · refine r_aload_n (i := 0) dX1_keep_12 rfl rfl ?_
      refine r_getR dX1_keep_13 fR_X1_44 (by first | assumption | (simp only [kd_sI, kd_sR, kd_sA, kd_sQ, kd_sL, kd_sD, ln_sI, ln_sR, ln_sA, ln_sQ, ln_sL, ln_sD, gI_sR, gI_sA, gI_sQ, gI_sL, gI_sD, gR_sI, gR_sA, gR_sQ, gR_sL, gR_sD, gA_sI, gA_sR, gA_sQ, gA_sL, gA_sD, gQ_sI, gQ_sR, gQ_sA, gQ_sL, gQ_sD, gL_sI, gL_sR, gL_sA, gL_sQ, gL_sD]; assumption) | simp [kd_sI, kd_sR, kd_sA, kd_sQ, kd_sL, kd_sD, ln_sI, ln_sR, ln_sA, ln_sQ, ln_sL, ln_sD, gI_sR, gI_sA, gI_sQ, gI_sL, gI_sD, gR_sI, gR_sA, gR_sQ, gR_sL, gR_sD, gA_sI, gA_sR, gA_sQ, gA_sL, gA_sD, gQ_sI, gQ_sR, gQ_sA, gQ_sL, gQ_sD, gL_sI, gL_sR, gL_sA, gL_sQ, gL_sD, kd_nO, kd_nA, *]) (by first | assumption | exact gI_sIs | exact gR_sRs | with_reducible rfl | (simp only [kd_sI, kd_sR, kd_sA, kd_sQ, kd_sL, kd_sD, ln_sI, ln_sR, ln_sA, ln_sQ, ln_sL, ln_sD, gI_sR, gI_sA, gI_sQ, gI_sL, gI_sD, gR_sI, gR_sA, gR_sQ, gR_sL, gR_sD, gA_sI, gA_sR, gA_sQ, gA_sL, gA_sD, gQ_sI, gQ_sR, gQ_sA, gQ_sL, gQ_sD, gL_sI, gL_sR, gL_sA, gL_sQ, gL_sD]; first | done | assumption | with_reducible rfl) | rfl) ?_
      refine r_callV (As := []) (mc' := 0) (ms' := 0) dX1_keep_16 k_X1_59 rfl (by first | assumption | (simp only [kd_sI, kd_sR, kd_sA, kd_sQ, kd_sL, kd_sD, ln_sI, ln_sR, ln_sA, ln_sQ, ln_sL, ln_sD, gI_sR, gI_sA, gI_sQ, gI_sL, gI_sD, gR_sI, gR_sA, gR_sQ, gR_sL, gR_sD, gA_sI, gA_sR, gA_sQ, gA_sL, gA_sD, gQ_sI, gQ_sR, gQ_sA, gQ_sL, gQ_sD, gL_sI, gL_sR, gL_sA, gL_sQ, gL_sD]; assumption) | simp [kd_sI, kd_sR, kd_sA, kd_sQ, kd_sL, kd_sD, ln_sI, ln_sR, ln_sA, ln_sQ, ln_sL, ln_sD, gI_sR, gI_sA, gI_sQ, gI_sL, gI_sD, gR_sI, gR_sA, gR_sQ, gR_sL, gR_sD, gA_sI, gA_sR, gA_sQ, gA_sL, gA_sD, gQ_sI, gQ_sR, gQ_sA, gQ_sL, gQ_sD, gL_sI, gL_sR, gL_sA, gL_sQ, gL_sD, kd_nO, kd_nA, *]) (T := TJ5) (N := 3) rfl (by first | assumption | omega) (by first | assumption | omega) (by first | assumption | omega) (Nat.le_of_ble_eq_true rfl) ?_
      refine s_dqRemF (by omega) u2 (by omega) (fun H1 hK1 hD1 => ?_)
      have e0 := hK1.at (a := pn) (by rw [a1]; decide) (fun e => e.elim (fun e => by rw [e, kD] at a1; omega) (fun e => by rw [e, ke] at a1; omega))
      have kp1 : kd H1 pn = 1 := by rw [at_kd e0]; exact a1
      have r2 : gR H1 2 pn = some Y.D := by rw [at_gR e0]; exact u1
      have kx : kd H1 (Y.xs 0) = 2 := hK1.kk (u5 0 (by omega)).pos.2.1 (by decide)
      have kD1 := hD1.1
      have kq1 : kd H1 q = 2 := hK1.kk q2 (by decide)
      show AW mX1_keep G d Qr Qx _ _ H1 19 _ _
      refine r_cast dX1_keep_19 (by first | assumption | (simp only [kd_sI, kd_sR, kd_sA, kd_sQ, kd_sL, kd_sD, ln_sI, ln_sR, ln_sA, ln_sQ, ln_sL, ln_sD, gI_sR, gI_sA, gI_sQ, gI_sL, gI_sD, gR_sI, gR_sA, gR_sQ, gR_sL, gR_sD, gA_sI, gA_sR, gA_sQ, gA_sL, gA_sD, gQ_sI, gQ_sR, gQ_sA, gQ_sL, gQ_sD, gL_sI, gL_sR, gL_sA, gL_sQ, gL_sD]; assumption) | simp [kd_sI, kd_sR, kd_sA, kd_sQ, kd_sL, kd_sD, ln_sI, ln_sR, ln_sA, ln_sQ, ln_sL, ln_sD, gI_sR, gI_sA, gI_sQ, gI_sL, gI_sD, gR_sI, gR_sA, gR_sQ, gR_sL, gR_sD, gA_sI, gA_sR, gA_sQ, gA_sL, gA_sD, gQ_sI, gQ_sR, gQ_sA, gQ_sL, gQ_sD, gL_sI, gL_sR, gL_sA, gL_sQ, gL_sD, kd_nO, kd_nA, *]) (T := TX2) (N := 8) rfl q149 (Or.inl rfl) ?_
      refine r_astore_n (i := 2) dX1_keep_22 rfl (Nat.le_of_ble_eq_true rfl) (by simp only [lset]; rfl) ?_
      refine r_aload_n (i := 0) dX1_keep_23 rfl rfl ?_
      refine r_getR dX1_keep_24 fR_X1_44 (by first | assumption | (simp only [kd_sI, kd_sR, kd_sA, kd_sQ, kd_sL, kd_sD, ln_sI, ln_sR, ln_sA, ln_sQ, ln_sL, ln_sD, gI_sR, gI_sA, gI_sQ, gI_sL, gI_sD, gR_sI, gR_sA, gR_sQ, gR_sL, gR_sD, gA_sI, gA_sR, gA_sQ, gA_sL, gA_sD, gQ_sI, gQ_sR, gQ_sA, gQ_sL, gQ_sD, gL_sI, gL_sR, gL_sA, gL_sQ, gL_sD]; assumption) | simp [kd_sI, kd_sR, kd_sA, kd_sQ, kd_sL, kd_sD, ln_sI, ln_sR, ln_sA, ln_sQ, ln_sL, ln_sD, gI_sR, gI_sA, gI_sQ, gI_sL, gI_sD, gR_sI, gR_sA, gR_sQ, gR_sL, gR_sD, gA_sI, gA_sR, gA_sQ, gA_sL, gA_sD, gQ_sI, gQ_sR, gQ_sA, gQ_sL, gQ_sD, gL_sI, gL_sR, gL_sA, gL_sQ, gL_sD, kd_nO, kd_nA, *]) (by first | assumption | exact gI_sIs | exact gR_sRs | with_reducible rfl | (simp only [kd_sI, kd_sR, kd_sA, kd_sQ, kd_sL, kd_sD, ln_sI, ln_sR, ln_sA, ln_sQ, ln_sL, ln_sD, gI_sR, gI_sA, gI_sQ, gI_sL, gI_sD, gR_sI, gR_sA, gR_sQ, gR_sL, gR_sD, gA_sI, gA_sR, gA_sQ, gA_sL, gA_sD, gQ_sI, gQ_sR, gQ_sA, gQ_sL, gQ_sD, gL_sI, gL_sR, gL_sA, gL_sQ, gL_sD]; first | done | assumption | with_reducible rfl) | rfl) ?_
      refine r_aload_n (i := 1) dX1_keep_27 rfl rfl ?_
      refine r_callV (As := [_]) (mc' := 0) (ms' := 0) dX1_keep_28 k_X1_63 rfl (by first | assumption | (simp only [kd_sI, kd_sR, kd_sA, kd_sQ, kd_sL, kd_sD, ln_sI, ln_sR, ln_sA, ln_sQ, ln_sL, ln_sD, gI_sR, gI_sA, gI_sQ, gI_sL, gI_sD, gR_sI, gR_sA, gR_sQ, gR_sL, gR_sD, gA_sI, gA_sR, gA_sQ, gA_sL, gA_sD, gQ_sI, gQ_sR, gQ_sA, gQ_sL, gQ_sD, gL_sI, gL_sR, gL_sA, gL_sQ, gL_sD]; assumption) | simp [kd_sI, kd_sR, kd_sA, kd_sQ, kd_sL, kd_sD, ln_sI, ln_sR, ln_sA, ln_sQ, ln_sL, ln_sD, gI_sR, gI_sA, gI_sQ, gI_sL, gI_sD, gR_sI, gR_sA, gR_sQ, gR_sL, gR_sD, gA_sI, gA_sR, gA_sQ, gA_sL, gA_sD, gQ_sI, gQ_sR, gQ_sA, gQ_sL, gQ_sD, gL_sI, gL_sR, gL_sA, gL_sQ, gL_sD, kd_nO, kd_nA, *]) (T := TJ5) (N := 3) rfl (by first | assumption | omega) (by first | assumption | omega) (by first | assumption | omega) (Nat.le_of_ble_eq_true rfl) ?_
      refine s_dqAdd (by omega) hD1 (by omega) (Or.inl ⟨by rw [kq1]; decide, by rw [kq1]; decide⟩) (fun H2 hK2 hD2 => ?_)
      refine AW.st0 (fun z2 => ?_)
      show AW mX1_keep G d Qr Qx _ _ H2 31 _ _
      refine r_return dX1_keep_31 rfl ?_
      have hlen : (keepL L gq).length = 8 := by rw [keepL_len, if_pos h8]
      refine fin H2 (va_up (fun i => Y.xs (i + 1)) (L.length - 1) q) (fun i => if i = 7 then t' else Y.ts (i + 1)) _ (hK1.tr2 hK2 (fun _ _ q => q)) z2 (by rw [hlen]; rw [show L.length - 1 + 1 = 8 by omega] at hD2; exact hD2) (fun i hi => ?_) (fun i j hi hj e => ?_)
      · have hat := keepL_at hi
        rw [hlen] at hi
        rw [if_pos h8] at hat
        by_cases e7 : i = 7
        · rw [if_neg (by omega)] at hat
          exact Or.inl ⟨by rw [e7, show L.length - 1 = 7 by omega]; exact vup_n, if_pos e7, hat⟩
        · rw [if_pos (by omega)] at hat
          exact Or.inr ⟨i + 1, by omega, by rw [show L.length - 1 = 7 by omega]; exact vup_o e7, if_neg e7, hat⟩
      · rw [hlen] at hi hj
        have e' : (if i = 7 then t' else Y.ts (i + 1)) = (if j = 7 then t' else Y.ts (j + 1)) := e
        by_cases e7 : i = 7
        · by_cases e8 : j = 7
          · omega
          · rw [if_pos e7, if_neg e8] at e'
            exact absurd e' (hts _ (by omega))
        · by_cases e8 : j = 7
          · rw [if_neg e7, if_pos e8] at e'
            exact absurd e'.symm (hts _ (by omega))
          · rw [if_neg e7, if_neg e8] at e'
            have := k2 _ _ (by omega) (by omega) e'
            omega
  · refine r_bipush (v := nI 8) dX1_keep_7 (by decide) ?_
    refine r_icmp_ne (tgt := 23) dX1_keep_9 (by decide) (fun h9 => ?_) (fun h9 => ?_)
    · refine r_aload_n (i := 0) dX1_keep_23 rfl rfl ?_
      refine r_getR dX1_keep_24 fR_X1_44 (by first | assumption | (simp only [kd_sI, kd_sR, kd_sA, kd_sQ, kd_sL, kd_sD, ln_sI, ln_sR, ln_sA, ln_sQ, ln_sL, ln_sD, gI_sR, gI_sA, gI_sQ, gI_sL, gI_sD, gR_sI, gR_sA, gR_sQ, gR_sL, gR_sD, gA_sI, gA_sR, gA_sQ, gA_sL, gA_sD, gQ_sI, gQ_sR, gQ_sA, gQ_sL, gQ_sD, gL_sI, gL_sR, gL_sA, gL_sQ, gL_sD]; assumption) | simp [kd_sI, kd_sR, kd_sA, kd_sQ, kd_sL, kd_sD, ln_sI, ln_sR, ln_sA, ln_sQ, ln_sL, ln_sD, gI_sR, gI_sA, gI_sQ, gI_sL, gI_sD, gR_sI, gR_sA, gR_sQ, gR_sL, gR_sD, gA_sI, gA_sR, gA_sQ, gA_sL, gA_sD, gQ_sI, gQ_sR, gQ_sA, gQ_sL, gQ_sD, gL_sI, gL_sR, gL_sA, gL_sQ, gL_sD, kd_nO, kd_nA, *]) (by first | assumption | exact gI_sIs | exact gR_sRs | with_reducible rfl | (simp only [kd_sI, kd_sR, kd_sA, kd_sQ, kd_sL, kd_sD, ln_sI, ln_sR, ln_sA, ln_sQ, ln_sL, ln_sD, gI_sR, gI_sA, gI_sQ, gI_sL, gI_sD, gR_sI, gR_sA, gR_sQ, gR_sL, gR_sD, gA_sI, gA_sR, gA_sQ, gA_sL, gA_sD, gQ_sI, gQ_sR, gQ_sA, gQ_sL, gQ_sD, gL_sI, gL_sR, gL_sA, gL_sQ, gL_sD]; first | done | assumption | with_reducible rfl) | rfl) ?_
      refine r_aload_n (i := 1) dX1_keep_27 rfl rfl ?_
      refine r_callV (As := [_]) (mc' := 0) (ms' := 0) dX1_keep_28 k_X1_63 rfl (by first | assumption | (simp only [kd_sI, kd_sR, kd_sA, kd_sQ, kd_sL, kd_sD, ln_sI, ln_sR, ln_sA, ln_sQ, ln_sL, ln_sD, gI_sR, gI_sA, gI_sQ, gI_sL, gI_sD, gR_sI, gR_sA, gR_sQ, gR_sL, gR_sD, gA_sI, gA_sR, gA_sQ, gA_sL, gA_sD, gQ_sI, gQ_sR, gQ_sA, gQ_sL, gQ_sD, gL_sI, gL_sR, gL_sA, gL_sQ, gL_sD]; assumption) | simp [kd_sI, kd_sR, kd_sA, kd_sQ, kd_sL, kd_sD, ln_sI, ln_sR, ln_sA, ln_sQ, ln_sL, ln_sD, gI_sR, gI_sA, gI_sQ, gI_sL, gI_sD, gR_sI, gR_sA, gR_sQ, gR_sL, gR_sD, gA_sI, gA_sR, gA_sQ, gA_sL, gA_sD, gQ_sI, gQ_sR, gQ_sA, gQ_sL, gQ_sD, gL_sI, gL_sR, gL_sA, gL_sQ, gL_sD, kd_nO, kd_nA, *]) (T := TJ5) (N := 3) rfl (by first | assumption | omega) (by first | assumption | omega) (by first | assumption | omega) (Nat.le_of_ble_eq_true rfl) ?_
      refine s_dqAdd (by omega) u2 (by omega) (Or.inl ⟨by rw [q2]; decide, by rw [q2]; decide⟩) (fun H2 hK2 hD2 => ?_)
      refine AW.st0 (fun z2 => ?_)
      show AW mX1_keep G d Qr Qx _ _ H2 31 _ _
      refine r_return dX1_keep_31 rfl ?_
      have hlen : (keepL L gq).length = L.length + 1 := by rw [keepL_len, if_neg h8]
      refine fin H2 (va_up Y.xs L.length q) (fun i => if i = L.length then t' else Y.ts i) _ hK2 z2 (by rw [hlen]; exact hD2) (fun i hi => ?_) (fun i j hi hj e => ?_)
      · have hat := keepL_at hi
        rw [hlen] at hi
        rw [if_neg h8] at hat
        by_cases e7 : i = L.length
        · rw [if_neg (by omega)] at hat
          exact Or.inl ⟨by rw [e7]; exact vup_n, if_pos e7, hat⟩
        · rw [if_pos (by omega)] at hat
          exact Or.inr ⟨i, by omega, vup_o e7, if_neg e7, hat⟩
      · rw [hlen] at hi hj
        have e' : (if i = L.length then t' else Y.ts i) = (if j = L.length then t' else Y.ts j) := e
        by_cases e7 : i = L.length
        · by_cases e8 : j = L.length
          · omega
          · rw [if_pos e7, if_neg e8] at e'
            exact absurd e' (hts _ (by omega))
        · by_cases e8 : j = L.length
          · rw [if_neg e7, if_pos e8] at e'
            exact absurd e'.symm (hts _ (by omega))
          · rw [if_neg e7, if_neg e8] at e'
            exact k2 _ _ (by omega) (by omega) e'
    · exact absurd ((nI_eq (a := L.length) (b := 8) (by omega) (by omega)).mp (by simpa using h9)) h8
end Keep
