set_option maxRecDepth 100000
/-! PLANS: what a plan's object says, part by part; who owns what (labels O) -/
/-- a step from H with the labels O to H' with O': what is outside S stays -/
def Stq (G : Gl) (S : Nat → Prop) (H : AH) (O : Nat → Nat) (H' : AH) (O' : Nat → Nat) : Prop := Ks S H H' ∧ (∀ a, kd H a ≠ 0 → O' a = O a) ∧ kd H' (gSt G 1) = 0
theorem Stq.tr {G : Gl} {S : Nat → Prop} {H H1 H2 : AH} {O O1 O2 : Nat → Nat} (h : Stq G S H O H1 O1) (k : Stq G S H1 O1 H2 O2) : Stq G S H O H2 O2 := ⟨h.1.tr k.1, fun a ha => (k.2.1 a (h.1.nz ha)).trans (h.2.1 a ha), k.2.2⟩
theorem Stq.tr2 {G : Gl} {S S2 : Nat → Prop} {H H1 H2 : AH} {O O1 O2 : Nat → Nat} (h : Stq G S H O H1 O1) (k : Stq G S2 H1 O1 H2 O2) (hs : ∀ a, kd H a ≠ 0 → S2 a → S a) : Stq G S H O H2 O2 := ⟨h.1.tr2 k.1 hs, fun a ha => (k.2.1 a (h.1.nz ha)).trans (h.2.1 a ha), k.2.2⟩
theorem Stq.mono {G : Gl} {S S' : Nat → Prop} {H H' : AH} {O O' : Nat → Nat} (h : Stq G S H O H' O') (hs : ∀ a, kd H a ≠ 0 → S a → S' a) : Stq G S' H O H' O' := ⟨h.1.mono hs, h.2.1, h.2.2⟩
theorem Stq.of {G : Gl} {S : Nat → Prop} {H H' : AH} {O : Nat → Nat} (h : Ks S H H') (z : kd H' (gSt G 1) = 0) : Stq G S H O H' O := ⟨h, fun _ _ => rfl, z⟩
/-- what is free gets a label -/
def rlb (O : Nat → Nat) (H : AH) (l : Nat) (a : Nat) : Nat := if kd H a = 0 then l else O a
theorem rlb_f {O : Nat → Nat} {H : AH} {l a : Nat} (h : kd H a = 0) : rlb O H l a = l := by unfold rlb; rw [if_pos h]
theorem rlb_n {O : Nat → Nat} {H : AH} {l a : Nat} (h : kd H a ≠ 0) : rlb O H l a = O a := by unfold rlb; rw [if_neg h]
theorem Stq.rl {G : Gl} {S : Nat → Prop} {H H' : AH} {O : Nat → Nat} (l : Nat) (h : Ks S H H') (z : kd H' (gSt G 1) = 0) : Stq G S H O H' (rlb O H l) := ⟨h, fun _ ha => rlb_n ha, z⟩
section
variable {G : Gl} {H H' : AH} {O O' : Nat → Nat} {S : Nat → Prop} {l L n : Nat}
/-- an own list -/
def OwL (H : AH) (O : Nat → Nat) (l L e : Nat) : Prop := O L = l ∧ (kd H e ≠ 0 → O e = l)
theorem OwL.ks {xs : Nat → Nat} {e : Nat} (h : OwL H O l L e) (hL : LsO G H L n xs e) (hs : Stq G S H O H' O') : OwL H' O' l L e := by
  refine ⟨by rw [hs.2.1 L (by rw [hL.1]; decide)]; exact h.1, fun k => ?_⟩
  by_cases he : kd H e = 0
  · rcases hL.2.2.2.2 with q | q
    · rw [q.1] at k
      exact absurd hs.2.2 k
    · rw [q.1] at he
      exact absurd he (by decide)
  · rw [hs.2.1 e he]
    exact h.2 he
theorem LsO.kz {xs : Nat → Nat} {e : Nat} (h : LsO G H L n xs e) (hs : Ks S H H') (ow : OwL H O l L e) (hl : ∀ a, kd H a ≠ 0 → S a → O a ≠ l) : LsO G H' L n xs e := h.ks hs (fun q => hl L (by rw [h.1]; decide) q ow.1) (fun k q => hl e (by rw [k]; decide) q (ow.2 (by rw [k]; decide)))
/-! trays -/
def q_cnt (g : Nat → Int32) (t k : Int32) : Int32 := sumN (fun c => if q_in g t k c then nI 1 else nI 0) (nat g 101)
def tvOf (g : Nat → Int32) (t : Nat) : TV := (g (41 + 5 * t), g (42 + 5 * t), g (43 + 5 * t), g (44 + 5 * t), nat g (45 + 5 * t), fun k => q_class g (nI t) (nI k), fun k => q_area g (nI t) (nI k), fun k => q_cnt g (nI t) (nI k))
def TrX (G : Gl) (H : AH) (O : Nat → Nat) (l L n : Nat) (tv : Nat → TV) (e : Nat) (tr tc tf tu : Nat → Nat) : Prop := LsO G H L n tr e ∧ n ≤ 12 ∧ OwL H O l L e ∧ (∀ t, t < n → TrO H (tr t) (tc t) (tf t) (tu t) (tv t) ∧ O (tr t) = l ∧ O (tc t) = l ∧ O (tf t) = l ∧ O (tu t) = l) ∧ ∀ i j, i < n → j < n → (tc i = tc j ∨ tf i = tf j ∨ tu i = tu j) → i = j
def TrS (G : Gl) (H : AH) (O : Nat → Nat) (l L n : Nat) (tv : Nat → TV) : Prop := ∃ (e : Nat) (tr tc tf tu : Nat → Nat), TrX G H O l L n tv e tr tc tf tu
theorem TrO.nz {t c f u : Nat} {v : TV} (h : TrO H t c f u v) : kd H t ≠ 0 ∧ kd H c ≠ 0 ∧ kd H f ≠ 0 ∧ kd H u ≠ 0 := by
  obtain ⟨a1, a2, a3, a4, a5, a6, a7, a8, a9, a10, a11, -⟩ := h
  exact ⟨by rw [a1]; decide, by rw [a9]; decide, by rw [a10]; decide, by rw [a11]; decide⟩
theorem TrX.ks {tv : Nat → TV} {e : Nat} {tr tc tf tu : Nat → Nat} (h : TrX G H O l L n tv e tr tc tf tu) (hs : Stq G S H O H' O') (hl : ∀ a, kd H a ≠ 0 → S a → O a ≠ l) : TrX G H' O' l L n tv e tr tc tf tu := by
  obtain ⟨a1, a2, a3, a4, a5⟩ := h
  refine ⟨a1.kz hs.1 a3 hl, a2, a3.ks a1 hs, fun t ht => ?_, a5⟩
  obtain ⟨b1, b2, b3, b4, b5⟩ := a4 t ht
  obtain ⟨c1, c2, c3, c4⟩ := b1.nz
  exact ⟨b1.ks hs.1 (fun q => hl _ c1 q b2) (fun q => hl _ c2 q b3) (fun q => hl _ c3 q b4) (fun q => hl _ c4 q b5), by rw [hs.2.1 _ c1]; exact b2, by rw [hs.2.1 _ c2]; exact b3, by rw [hs.2.1 _ c3]; exact b4, by rw [hs.2.1 _ c4]; exact b5⟩
theorem TrS.ks {tv : Nat → TV} (h : TrS G H O l L n tv) (hs : Stq G S H O H' O') (hl : ∀ a, kd H a ≠ 0 → S a → O a ≠ l) : TrS G H' O' l L n tv := by
  obtain ⟨e, tr, tc, tf, tu, h⟩ := h
  exact ⟨e, tr, tc, tf, tu, h.ks hs hl⟩
/-! cables -/
def cvOf (g : Nat → Int32) (c k : Nat) : Int32 := g (102 + 21 * c + k)
def CaX (G : Gl) (H : AH) (O : Nat → Nat) (l L n : Nat) (cv : Nat → Nat → Int32) (e : Nat) (ca rl re : Nat → Nat) (st : Nat → Nat → Nat) : Prop := LsO G H L n ca e ∧ n ≤ 12 ∧ OwL H O l L e ∧ (∀ c, c < n → CaO G H (ca c) (rl c) (re c) (st c) (cv c 4).toNatClampNeg (cv c) ∧ O (ca c) = l ∧ OwL H O l (rl c) (re c) ∧ ∀ i, i < (cv c 4).toNatClampNeg → O (st c i) = 0) ∧ (∀ i j, i < n → j < n → (ca i = ca j ∨ rl i = rl j ∨ (kd H (re i) ≠ 0 ∧ re i = re j)) → i = j) ∧ ∀ i, i < n → rl i ≠ L ∧ (kd H (re i) ≠ 0 → re i ≠ e)
def CaS (G : Gl) (H : AH) (O : Nat → Nat) (l L n : Nat) (cv : Nat → Nat → Int32) : Prop := ∃ (e : Nat) (ca rl re : Nat → Nat) (st : Nat → Nat → Nat), CaX G H O l L n cv e ca rl re st
theorem CaO.kz {c rl re k : Nat} {st : Nat → Nat} {v : Nat → Int32} (h : CaO G H c rl re st k v) (hs : Ks S H H') (h1 : O c = l) (h2 : OwL H O l rl re) (h3 : ∀ i, i < k → O (st i) = 0) (hl : ∀ a, kd H a ≠ 0 → S a → O a ≠ l ∧ O a ≠ 0) : CaO G H' c rl re st k v :=
  h.ks hs (fun q => (hl c (by rw [h.1.1]; decide) q).1 h1) (fun q => (hl rl (by rw [h.2.2.2.1.1]; decide) q).1 h2.1) (fun k q => (hl re (by rw [k]; decide) q).1 (h2.2 (by rw [k]; decide))) (fun i hi q => (hl _ (by rw [(h.2.2.2.2 i hi).1]; decide) q).2 (h3 i hi))
theorem LsO.ez {xs : Nat → Nat} {e : Nat} (h : LsO G H L n xs e) (hs : Stq G S H O H' O') (k : kd H' e ≠ 0) : kd H e ≠ 0 := by
  rcases h.2.2.2.2 with q | q
  · rw [q.1] at k
    exact absurd hs.2.2 k
  · rw [q.1]
    decide
theorem CaX.ks {cv : Nat → Nat → Int32} {e : Nat} {ca rl re : Nat → Nat} {st : Nat → Nat → Nat} (h : CaX G H O l L n cv e ca rl re st) (hs : Stq G S H O H' O') (hl : ∀ a, kd H a ≠ 0 → S a → O a ≠ l ∧ O a ≠ 0) : CaX G H' O' l L n cv e ca rl re st := by
  obtain ⟨a1, a2, a3, a4, a5, a6⟩ := h
  refine ⟨a1.kz hs.1 a3 (fun a ha q => (hl a ha q).1), a2, a3.ks a1 hs, fun c hc => ?_, fun i j hi hj q => a5 i j hi hj (q.imp (fun h => h) (fun q => q.imp (fun h => h) (fun q => ⟨(a4 i hi).1.2.2.2.1.ez hs q.1, q.2⟩))), fun i hi => ⟨(a6 i hi).1, fun q => (a6 i hi).2 ((a4 i hi).1.2.2.2.1.ez hs q)⟩⟩
  obtain ⟨b1, b2, b3, b4⟩ := a4 c hc
  exact ⟨b1.kz hs.1 b2 b3 b4 hl, by rw [hs.2.1 _ (by rw [b1.1.1]; decide)]; exact b2, b3.ks b1.2.2.2.1 hs, fun i hi => by rw [hs.2.1 _ (by rw [(b1.2.2.2.2 i hi).1]; decide)]; exact b4 i hi⟩
theorem CaS.ks {cv : Nat → Nat → Int32} (h : CaS G H O l L n cv) (hs : Stq G S H O H' O') (hl : ∀ a, kd H a ≠ 0 → S a → O a ≠ l ∧ O a ≠ 0) : CaS G H' O' l L n cv := by
  obtain ⟨e, ca, rl, re, st, h⟩ := h
  exact ⟨e, ca, rl, re, st, h.ks hs hl⟩
/-! drums -/
def dvOf (g : Nat → Int32) (x k : Nat) : Int32 := g (355 + 3 * x + k)
def DrX (G : Gl) (H : AH) (O : Nat → Nat) (l L n : Nat) (dv : Nat → Nat → Int32) (e : Nat) (dr : Nat → Nat) : Prop := LsO G H L n dr e ∧ n ≤ 10 ∧ OwL H O l L e ∧ (∀ x, x < n → DrO H (dr x) (dv x 0) (dv x 2) (dv x 1) ∧ O (dr x) = l) ∧ ∀ i j, i < n → j < n → dr i = dr j → i = j
def DrS (G : Gl) (H : AH) (O : Nat → Nat) (l L n : Nat) (dv : Nat → Nat → Int32) : Prop := ∃ (e : Nat) (dr : Nat → Nat), DrX G H O l L n dv e dr
theorem DrX.ks {dv : Nat → Nat → Int32} {e : Nat} {dr : Nat → Nat} (h : DrX G H O l L n dv e dr) (hs : Stq G S H O H' O') (hl : ∀ a, kd H a ≠ 0 → S a → O a ≠ l) : DrX G H' O' l L n dv e dr := by
  obtain ⟨a1, a2, a3, a4, a5⟩ := h
  refine ⟨a1.kz hs.1 a3 hl, a2, a3.ks a1 hs, fun x hx => ?_, a5⟩
  obtain ⟨b1, b2⟩ := a4 x hx
  have nz : kd H (dr x) ≠ 0 := by rw [b1.1]; decide
  exact ⟨b1.ks hs.1 (fun q => hl _ nz q b2), by rw [hs.2.1 _ nz]; exact b2⟩
theorem DrS.ks {dv : Nat → Nat → Int32} (h : DrS G H O l L n dv) (hs : Stq G S H O H' O') (hl : ∀ a, kd H a ≠ 0 → S a → O a ≠ l) : DrS G H' O' l L n dv := by
  obtain ⟨e, dr, h⟩ := h
  exact ⟨e, dr, h.ks hs hl⟩
/-! types -/
def nmF (g : Nat → Int32) (y i : Nat) : Nat := nat g (4 + 6 * y + i)
def nmL (g : Nat → Int32) (y : Nat) : Nat := nat g (7 + 6 * y)
/-- an immutable String, its hash is known -/
def NmO (H : AH) (O : Nat → Nat) (a m : Nat) (cs : Nat → Nat) : Prop := ST H a m cs ∧ gI H 115 a ≠ 0 ∧ (O a = 0 ∨ O a = 6) ∧ ∀ v, gR H 113 a = some v → O v = 0
theorem NmO.ks {a m : Nat} {cs : Nat → Nat} (h : NmO H O a m cs) (hs : Stq G S H O H' O') (hl : ∀ a, kd H a ≠ 0 → S a → O a ≠ 0 ∧ (O a = 6 → gI H 115 a = 0)) : NmO H' O' a m cs := by
  obtain ⟨⟨a1, a2, a3, ⟨v, b1, b2, b3⟩, a5⟩, a6, a7, a8⟩ := h
  have e1 := hs.1.at (a := a) (by rw [a1]; decide) (fun q => a7.elim (fun e => (hl a (by rw [a1]; decide) q).1 e) (fun e => a6 ((hl a (by rw [a1]; decide) q).2 e)))
  have kv : kd H v = 2113 := b2.1
  have e2 := hs.1.at (a := v) (by rw [kv]; decide) (fun q => (hl v (by rw [kv]; decide) q).1 (a8 v b1))
  refine ⟨⟨by rw [at_kd e1]; exact a1, by rw [at_gI e1]; exact a2, a3, ⟨v, by rw [at_gR e1]; exact b1, ⟨by rw [at_kd e2]; exact kv, fun i hi => by rw [at_gA e2]; exact b2.2 i hi⟩, by rw [at_ln e2]; exact b3⟩, by rw [at_gI e1, at_gI e1]; exact a5⟩, by rw [at_gI e1]; exact a6, by rw [hs.2.1 a (by rw [a1]; decide)]; exact a7, fun w hw => ?_⟩
  rw [at_gR e1, b1] at hw
  cases hw
  rw [hs.2.1 v (by rw [kv]; decide)]
  exact a8 v b1
/-- one type -/
def TyO (H : AH) (O : Nat → Nat) (g : Nat → Int32) (y a nm : Nat) : Prop := (kd H a = 17 ∧ gR H 64 a = some nm ∧ gI H 65 a = g (8 + 6 * y) ∧ gI H 66 a = g (9 + 6 * y)) ∧ O a = 0 ∧ NmO H O nm (nmL g y) (nmF g y)
theorem TyO.ks {g : Nat → Int32} {y a nm : Nat} (h : TyO H O g y a nm) (hs : Stq G S H O H' O') (hl : ∀ a, kd H a ≠ 0 → S a → O a ≠ 0 ∧ (O a = 6 → gI H 115 a = 0)) : TyO H' O' g y a nm := by
  obtain ⟨⟨a1, a2, a3, a4⟩, a5, a6⟩ := h
  have e1 := hs.1.at (a := a) (by rw [a1]; decide) (fun q => (hl a (by rw [a1]; decide) q).1 a5)
  exact ⟨⟨by rw [at_kd e1]; exact a1, by rw [at_gR e1]; exact a2, by rw [at_gI e1]; exact a3, by rw [at_gI e1]; exact a4⟩, by rw [hs.2.1 a (by rw [a1]; decide)]; exact a5, a6.ks hs hl⟩
/-- an own map -/
def OwM (H : AH) (O : Nat → Nat) (l M n : Nat) (nd : Nat → Nat) : Prop := O M = l ∧ (∀ tb, gR H 100 M = some tb → O tb = l) ∧ ∀ i, i < n → O (nd i) = l
def tyH (g : Nat → Int32) (y : Nat) : Int32 := sprd (hsh (nmF g y) (nmL g y))
def ivO (G : Gl) (y : Nat) : Nat := gSt G (y + 128 + 10)
def TyX (G : Gl) (H : AH) (O : Nat → Nat) (l L M n : Nat) (g : Nat → Int32) (e : Nat) (ty nm nd : Nat → Nat) : Prop := LsO G H L n ty e ∧ n ≤ 6 ∧ OwL H O l L e ∧ HM H M n (tyH g) nm (ivO G) nd ∧ OwM H O l M n nd ∧ ∀ y, y < n → TyO H O g y (ty y) (nm y)
def TyS (G : Gl) (H : AH) (O : Nat → Nat) (l L M n : Nat) (g : Nat → Int32) : Prop := ∃ (e : Nat) (ty nm nd : Nat → Nat), TyX G H O l L M n g e ty nm nd
theorem HM.tb {M n : Nat} {hs : Nat → Int32} {ky vl nd : Nat → Nat} (h : HM H M n hs ky vl nd) {tb : Nat} (q : gR H 100 M = some tb) : kd H tb = 5100 := by
  obtain ⟨a1, a2, a3, a4, a5, a6⟩ := h
  rcases a4 with ⟨b1, b2, b3⟩ | ⟨t2, b1, b2, b3⟩
  · rw [q] at b2
    cases b2
  · rw [q] at b1
    cases b1
    exact b2
theorem HM.kz {M : Nat} {hs' : Nat → Int32} {ky vl nd : Nat → Nat} (h : HM H M n hs' ky vl nd) (hs : Stq G S H O H' O') (ow : OwM H O l M n nd) (hl : ∀ a, kd H a ≠ 0 → S a → O a ≠ l) : HM H' M n hs' ky vl nd ∧ OwM H' O' l M n nd := by
  have h9 := h
  have kM : kd H M = 21 := h.1
  have nM : ¬ S M := fun q => hl M (by rw [kM]; decide) q ow.1
  have nT : ∀ tb, gR H 100 M = some tb → ¬ S tb := fun tb q k => hl tb (by rw [h9.tb q]; decide) k (ow.2.1 tb q)
  have kn : ∀ i, i < n → kd H (nd i) = 27 := fun i hi => (h9.2.2.2.2.1 i hi).1
  have e1 := hs.1.at (a := M) (by rw [kM]; decide) nM
  refine ⟨h.ks hs.1 nM nT (fun i hi q => hl _ (by rw [kn i hi]; decide) q (ow.2.2 i hi)), by rw [hs.2.1 M (by rw [kM]; decide)]; exact ow.1, fun tb q => ?_, fun i hi => by rw [hs.2.1 _ (by rw [kn i hi]; decide)]; exact ow.2.2 i hi⟩
  rw [at_gR e1] at q
  rw [hs.2.1 tb (by rw [h9.tb q]; decide)]
  exact ow.2.1 tb q
theorem TyX.ks {M e : Nat} {g : Nat → Int32} {ty nm nd : Nat → Nat} (h : TyX G H O l L M n g e ty nm nd) (hs : Stq G S H O H' O') (hl : ∀ a, kd H a ≠ 0 → S a → O a ≠ l ∧ O a ≠ 0 ∧ (O a = 6 → gI H 115 a = 0)) : TyX G H' O' l L M n g e ty nm nd := by
  obtain ⟨a1, a2, a3, a4, a5, a6⟩ := h
  obtain ⟨b1, b2⟩ := a4.kz hs a5 (fun a ha q => (hl a ha q).1)
  exact ⟨a1.kz hs.1 a3 (fun a ha q => (hl a ha q).1), a2, a3.ks a1 hs, b1, b2, fun y hy => (a6 y hy).ks hs (fun a ha q => (hl a ha q).2)⟩
theorem TyS.ks {M : Nat} {g : Nat → Int32} (h : TyS G H O l L M n g) (hs : Stq G S H O H' O') (hl : ∀ a, kd H a ≠ 0 → S a → O a ≠ l ∧ O a ≠ 0 ∧ (O a = 6 → gI H 115 a = 0)) : TyS G H' O' l L M n g := by
  obtain ⟨e, ty, nm, nd, h⟩ := h
  exact ⟨e, ty, nm, nd, h.ks hs hl⟩
/-! the plan -/
/-- a plan's object p -/
def PlF (H : AH) (O : Nat → Nat) (l p tyL M trL caL drL : Nat) (sp ta wa : Int32) : Prop := (kd H p = 2 ∧ gR H 8 p = some tyL ∧ gR H 9 p = some M ∧ gR H 10 p = some trL ∧ gR H 11 p = some caL ∧ gR H 12 p = some drL ∧ gI H 13 p = sp ∧ gI H 14 p = ta ∧ gI H 15 p = wa) ∧ O p = l
theorem PlF.ks {p tyL M trL caL drL : Nat} {sp ta wa : Int32} (h : PlF H O l p tyL M trL caL drL sp ta wa) (hs : Stq G S H O H' O') (hl : ∀ a, kd H a ≠ 0 → S a → O a ≠ l) : PlF H' O' l p tyL M trL caL drL sp ta wa := by
  obtain ⟨⟨a1, a2, a3, a4, a5, a6, a7, a8, a9⟩, b⟩ := h
  have e1 := hs.1.at (a := p) (by rw [a1]; decide) (fun q => hl p (by rw [a1]; decide) q b)
  exact ⟨⟨by rw [at_kd e1]; exact a1, by rw [at_gR e1]; exact a2, by rw [at_gR e1]; exact a3, by rw [at_gR e1]; exact a4, by rw [at_gR e1]; exact a5, by rw [at_gR e1]; exact a6, by rw [at_gI e1]; exact a7, by rw [at_gI e1]; exact a8, by rw [at_gI e1]; exact a9⟩, by rw [hs.2.1 p (by rw [a1]; decide)]; exact b⟩
end
/-- the lists of a plan -/
abbrev PA : Type := Nat × Nat × Nat × Nat × Nat
abbrev PA.ty (A : PA) : Nat := A.1
abbrev PA.M (A : PA) : Nat := A.2.1
abbrev PA.tr (A : PA) : Nat := A.2.2.1
abbrev PA.ca (A : PA) : Nat := A.2.2.2.1
abbrev PA.dr (A : PA) : Nat := A.2.2.2.2
/-- the plan p with the token t says what g says -/
def IsP (G : Gl) (H : AH) (O : Nat → Nat) (t p : Nat) (A : PA) (g : Nat → Int32) : Prop := 1 ≤ t ∧ PlF H O (8 * t + 1) p A.ty A.M A.tr A.ca A.dr (g 0) (g 1) (g 2) ∧ TyS G H O (8 * t + 2) A.ty A.M (nat g 3) g ∧ TrS G H O (8 * t + 3) A.tr (nat g 40) (tvOf g) ∧ CaS G H O (8 * t + 4) A.ca (nat g 101) (cvOf g) ∧ DrS G H O (8 * t + 5) A.dr (nat g 354) (dvOf g)
def IsPlan (G : Gl) (H : AH) (O : Nat → Nat) (t p : Nat) (g : Nat → Int32) : Prop := ∃ A, IsP G H O t p A g
theorem IsP.ks {G : Gl} {H H' : AH} {O O' : Nat → Nat} {S : Nat → Prop} {t p : Nat} {A : PA} {g : Nat → Int32} (h : IsP G H O t p A g) (hs : Stq G S H O H' O') (hl : ∀ a, kd H a ≠ 0 → S a → O a ≠ 0 ∧ (O a = 6 → gI H 115 a = 0) ∧ O a / 8 ≠ t) : IsP G H' O' t p A g := by
  obtain ⟨h0, h1, h2, h3, h4, h5⟩ := h
  have f : ∀ j, j < 8 → ∀ a, kd H a ≠ 0 → S a → O a ≠ 8 * t + j := fun j hj a ha q e => (hl a ha q).2.2 (by omega)
  exact ⟨h0, h1.ks hs (f 1 (by decide)), h2.ks hs (fun a ha q => ⟨f 2 (by decide) a ha q, (hl a ha q).1, (hl a ha q).2.1⟩), h3.ks hs (f 3 (by decide)), h4.ks hs (fun a ha q => ⟨f 4 (by decide) a ha q, (hl a ha q).1⟩), h5.ks hs (f 5 (by decide))⟩
theorem IsPlan.ks {G : Gl} {H H' : AH} {O O' : Nat → Nat} {S : Nat → Prop} {t p : Nat} {g : Nat → Int32} (h : IsPlan G H O t p g) (hs : Stq G S H O H' O') (hl : ∀ a, kd H a ≠ 0 → S a → O a ≠ 0 ∧ (O a = 6 → gI H 115 a = 0) ∧ O a / 8 ≠ t) : IsPlan G H' O' t p g := by
  obtain ⟨A, h⟩ := h
  exact ⟨A, h.ks hs hl⟩
/-! a new plan -/
section
variable {G : Gl} {d : Nat} {Qr : Option AV → AH → Prop} {Qx : String → Nat → AH → Prop} {H : AH} {O : Nat → Nat} {p t : Nat}
theorem nat_g0 : nat g0 3 = 0 ∧ nat g0 40 = 0 ∧ nat g0 101 = 0 ∧ nat g0 354 = 0 := by decide
theorem s_valueOfC {n : Nat} (hn : n < 128) (hQ : Qr (some (vR (some (ivO G n)))) H) : AMet G d 0 0 yJ19_valueOf wJ19_valueOf H [vI (nI n)] Qr Qx := by
  have hlow : ¬ nI n < -128 := by
    intro h
    have h1 := Int32.lt_iff_toInt_lt.mp h
    rw [nI_toInt (by omega)] at h1
    have h2 : (-128 : Int32).toInt = -128 := by decide
    omega
  refine AMet.of (M := mJ19_valueOf) (maxL := 1) (by first | rfl | decide +kernel) rfl (Nat.le_of_ble_eq_true rfl) ?_
  show AW mJ19_valueOf _ _ _ _ _ _ _ 0 [some (vI (nI n))] []
  refine r_iload_n (i := 0) dJ19_valueOf_0 rfl rfl ?_
  refine r_bipush (v := -128) dJ19_valueOf_1 (by decide) ?_
  refine r_icmp_lt (tgt := 23) dJ19_valueOf_3 (by decide) (fun h3 => ?_) (fun h3 => ?_)
  · exact absurd h3 hlow
  · refine r_iload_n (i := 0) dJ19_valueOf_6 rfl rfl ?_
    refine r_gs_high dJ19_valueOf_7 (Or.inl q1177) ?_
    refine r_icmp_gt (tgt := 23) dJ19_valueOf_10 (by decide) (fun h10 => ?_) (fun h10 => ?_)
    · exact absurd h10 (by
        intro h
        have h1 := Int32.lt_iff_toInt_lt.mp h
        rw [nI_toInt (by omega)] at h1
        have h2 : (127 : Int32).toInt = 127 := by decide
        have h3 : (nI 127 : Int32).toInt = 127 := by decide
        omega)
    · refine r_gs_cache dJ19_valueOf_13 (Or.inl q1179) ?_
      refine r_iload_n (i := 0) dJ19_valueOf_16 rfl rfl ?_
      refine r_sipush (v := nI 128) dJ19_valueOf_17 (by decide) ?_
      refine r_iadd dJ19_valueOf_20 ?_
      try simp only [nI_add]
      refine r_ic dJ19_valueOf_21 rfl (by omega) ?_
      refine r_areturn dJ19_valueOf_22 rfl (by first | exact Or.inl ⟨_, rfl⟩ | exact Or.inr ⟨_, rfl⟩) ?_
      exact hQ
theorem c_planInit (hd : 4 ≤ d) (ht : 1 ≤ t) (hk : kd H p = 2) (hz : gI H 15 p = 0) (hO : O p = 8 * t + 1) (hQ : ∀ H' O', Stq G (fun a => a = p) H O H' O' → IsPlan G H' O' t p g0 → Qr none H') : AMet G d 5 20 yX2_init wX2_init H [vR (some p)] Qr Qx := by
  have kn : ∀ {H' : AH} {a k : Nat}, kd H' a = k → k ≠ 0 → kd H' a ≠ 0 := fun h h' => by rw [h]; exact h'
  refine AMet.of (M := mX2_init) (maxL := 1) (by first | rfl | decide +kernel) rfl (Nat.le_of_ble_eq_true rfl) ?_
  show AW mX2_init _ _ _ _ _ _ _ 0 [some (vR (some p))] []
  refine r_aload_n (i := 0) dX2_init_0 rfl rfl ?_
  refine r_objInit dX2_init_1 q154 (by with_reducible rfl) (by first | assumption | omega) (Nat.le_of_ble_eq_true rfl) ?_
  refine r_aload_n (i := 0) dX2_init_4 rfl rfl ?_
  refine r_new dX2_init_5 cT_J2 q155 q156 q87 (by decide +kernel) (by first | assumption | omega) (by first | assumption | omega) (fun q5 hq5 => ?_)
  have p0 : ¬ p = q5 := ne_of_kd hk hq5 (by decide)
  refine AW.name (fun H1 hH1 => ?_)
  have K1 : Ks (fun a => a = p) H H1 := by rw [hH1]; exact (Ks.rf (S := fun a => a = p)).nO hq5
  have kp1 : kd H1 p = 2 := K1.kk hk (by decide)
  have j1 : gI H1 15 p = 0 := by rw [hH1, gI_nO, if_neg p0]; exact hz
  have kq5 : kd H1 q5 = 20 := by rw [hH1, kd_nO, if_pos rfl]
  have z5 : gI H1 97 q5 = 0 := by rw [hH1, gI_nO, if_pos rfl]
  refine r_dup dX2_init_8 rfl ?_
  refine r_callI (As := []) (mc' := 0) (ms' := 0) dX2_init_9 k_X2_11 rfl (by first | assumption | omega) (by first | assumption | omega) (by first | assumption | omega) (Nat.le_of_ble_eq_true rfl) ?_
  refine s_lsInit (xs := fun _ => 0) (by omega) kq5 z5 (fun H2 hK2 hL2 => ?_)
  have K2 : Ks (fun a => a = p) H H2 := K1.tr2 hK2 (fun a ha e => absurd hq5 (by rw [← e]; exact ha))
  have kp2 : kd H2 p = 2 := K2.kk hk (by decide)
  have j2 : gI H2 15 p = 0 := by rw [at_gI (hK2.at (a := p) (by rw [kp1]; decide) p0)]; exact j1
  show AW mX2_init G d Qr Qx _ _ H2 12 _ _
  refine r_putR dX2_init_12 fG_X2_12 (fun _ => by first | rfl | contradiction) (by first | assumption | (simp only [kd_sI, kd_sR, kd_sA, kd_sQ, kd_sL, kd_sD, ln_sI, ln_sR, ln_sA, ln_sQ, ln_sL, ln_sD, gI_sR, gI_sA, gI_sQ, gI_sL, gI_sD, gR_sI, gR_sA, gR_sQ, gR_sL, gR_sD, gA_sI, gA_sR, gA_sQ, gA_sL, gA_sD, gQ_sI, gQ_sR, gQ_sA, gQ_sL, gQ_sD, gL_sI, gL_sR, gL_sA, gL_sQ, gL_sD]; assumption) | simp [kd_sI, kd_sR, kd_sA, kd_sQ, kd_sL, kd_sD, ln_sI, ln_sR, ln_sA, ln_sQ, ln_sL, ln_sD, gI_sR, gI_sA, gI_sQ, gI_sL, gI_sD, gR_sI, gR_sA, gR_sQ, gR_sL, gR_sD, gA_sI, gA_sR, gA_sQ, gA_sL, gA_sD, gQ_sI, gQ_sR, gQ_sA, gQ_sL, gQ_sD, gL_sI, gL_sR, gL_sA, gL_sQ, gL_sD, kd_nO, kd_nA, *]) (by first | exact Or.inl ⟨_, rfl⟩ | exact Or.inr ⟨_, rfl⟩) ?_
  refine r_aload_n (i := 0) dX2_init_15 rfl rfl ?_
  refine r_new dX2_init_16 cT_J4 q184 q185 q89 (by decide +kernel) (by first | assumption | omega) (by first | assumption | omega) (fun q16 hq16 => ?_)
  have hq16' : kd H2 q16 = 0 := hq16
  have p1 : ¬ p = q16 := ne_of_kd kp2 hq16' (by decide)
  have n12 : q5 ≠ q16 := ne_of_kd hL2.1 hq16' (by decide)
  refine AW.name (fun H3 hH3 => ?_)
  have K3' : Ks (fun a => a = p) H2 H3 := by rw [hH3]; exact ((Ks.rf (S := fun a => a = p)).sR (fun _ => rfl)).nO hq16
  have K3 := K2.tr K3'
  have kp3 : kd H3 p = 2 := K3.kk hk (by decide)
  have j3 : gI H3 15 p = 0 := by rw [hH3, gI_nO, if_neg p1]; exact j2
  have kq16 : kd H3 q16 = 21 := by rw [hH3, kd_nO, if_pos rfl]
  have r8 : gR H3 8 p = some q5 := by rw [hH3, gR_nO, if_neg p1, gR_sRs]
  have hL3 := hL2.ks K3' (fun e => p0 e.symm) (fun k e => by rw [e, kp2] at k; exact absurd k (by decide))
  have zz1 : gI H3 102 q16 = 0 := by rw [hH3, gI_nO, if_pos rfl]
  have zz2 : gR H3 100 q16 = none := by rw [hH3, gR_nO, if_pos rfl]
  have zz3 : gI H3 104 q16 = 0 := by rw [hH3, gI_nO, if_pos rfl]
  refine r_dup dX2_init_19 rfl ?_
  refine r_callI (As := []) (mc' := 0) (ms' := 0) dX2_init_20 k_X2_20 rfl (by first | assumption | omega) (by first | assumption | omega) (by first | assumption | omega) (Nat.le_of_ble_eq_true rfl) ?_
  refine s_mapInit (hs := tyH g0) (ky := fun _ => 0) (vl := ivO G) (nd := fun _ => 0) (by omega) kq16 zz1 zz2 zz3 (fun H4 hK4 hM4 hT4 => ?_)
  have K4 : Ks (fun a => a = p) H H4 := K3.tr2 hK4 (fun a ha e => absurd (K2.fr hq16') (by rw [← e]; exact ha))
  have kp4 : kd H4 p = 2 := K4.kk hk (by decide)
  have x4 := hK4.at (a := p) (by rw [kp3]; decide) p1
  have j4 : gI H4 15 p = 0 := by rw [at_gI x4]; exact j3
  have hL4 := hL3.ks hK4 n12 (fun k e => by rw [e, kq16] at k; exact absurd k (by decide))
  show AW mX2_init G d Qr Qx _ _ H4 23 _ _
  have r8b : gR H4 8 p = some q5 := by rw [at_gR x4]; exact r8
  refine r_putR dX2_init_23 fG_X2_21 (fun _ => by first | rfl | contradiction) (by first | assumption | (simp only [kd_sI, kd_sR, kd_sA, kd_sQ, kd_sL, kd_sD, ln_sI, ln_sR, ln_sA, ln_sQ, ln_sL, ln_sD, gI_sR, gI_sA, gI_sQ, gI_sL, gI_sD, gR_sI, gR_sA, gR_sQ, gR_sL, gR_sD, gA_sI, gA_sR, gA_sQ, gA_sL, gA_sD, gQ_sI, gQ_sR, gQ_sA, gQ_sL, gQ_sD, gL_sI, gL_sR, gL_sA, gL_sQ, gL_sD]; assumption) | simp [kd_sI, kd_sR, kd_sA, kd_sQ, kd_sL, kd_sD, ln_sI, ln_sR, ln_sA, ln_sQ, ln_sL, ln_sD, gI_sR, gI_sA, gI_sQ, gI_sL, gI_sD, gR_sI, gR_sA, gR_sQ, gR_sL, gR_sD, gA_sI, gA_sR, gA_sQ, gA_sL, gA_sD, gQ_sI, gQ_sR, gQ_sA, gQ_sL, gQ_sD, gL_sI, gL_sR, gL_sA, gL_sQ, gL_sD, kd_nO, kd_nA, *]) (by first | exact Or.inl ⟨_, rfl⟩ | exact Or.inr ⟨_, rfl⟩) ?_
  refine r_aload_n (i := 0) dX2_init_26 rfl rfl ?_
  refine r_new dX2_init_27 cT_J2 q155 q156 q87 (by decide +kernel) (by first | assumption | omega) (by first | assumption | omega) (fun q27 hq27 => ?_)
  have hq27' : kd H4 q27 = 0 := hq27
  have p5 : ¬ p = q27 := ne_of_kd kp4 hq27' (by decide)
  have nq5_q27 : q5 ≠ q27 := ne_of_kd hL4.1 hq27' (by decide)
  have nM_q27 : q16 ≠ q27 := ne_of_kd hM4.1 hq27' (by decide)
  refine AW.name (fun H5 hH5 => ?_)
  have K5' : Ks (fun a => a = p) H4 H5 := by rw [hH5]; exact ((Ks.rf (S := fun a => a = p)).sR (fun _ => rfl)).nO hq27
  have K5 := K4.tr K5'
  have kp5 : kd H5 p = 2 := K5.kk hk (by decide)
  have j5 : gI H5 15 p = 0 := by rw [hH5, gI_nO, if_neg p5]; exact j4
  have kq27 : kd H5 q27 = 20 := by rw [hH5, kd_nO, if_pos rfl]
  have zq27 : gI H5 97 q27 = 0 := by rw [hH5, gI_nO, if_pos rfl]
  have r8_5 : gR H5 8 p = some q5 := by rw [hH5, gR_nO, if_neg p5, gR_sRn (by decide)]; exact r8b
  have r9_5 : gR H5 9 p = some q16 := by rw [hH5, gR_nO, if_neg p5, gR_sRs]
  have hLq5_5 := hL4.ks K5' (fun e => ne_of_kd kp4 hL4.1 (by decide) e.symm) (fun k e => by rw [e, kp4] at k; exact absurd k (by decide))
  have hM5 := hM4.ks K5' (fun e => ne_of_kd kp4 hM4.1 (by decide) e.symm) (fun tb q => by rw [hT4] at q; cases q) (fun i hi => absurd hi (by omega))
  have hT5 : gR H5 100 q16 = none := by rw [at_gR (K5'.at (a := q16) (by rw [hM4.1]; decide) (fun e => ne_of_kd kp4 hM4.1 (by decide) e.symm))]; exact hT4
  refine r_dup dX2_init_30 rfl ?_
  refine r_callI (As := []) (mc' := 0) (ms' := 0) dX2_init_31 k_X2_11 rfl (by first | assumption | omega) (by first | assumption | omega) (by first | assumption | omega) (Nat.le_of_ble_eq_true rfl) ?_
  refine s_lsInit (xs := fun _ => 0) (by omega) kq27 zq27 (fun H6 hK6 hLq27_6 => ?_)
  have K6 : Ks (fun a => a = p) H H6 := K5.tr2 hK6 (fun a ha e => absurd (K4.fr hq27') (by rw [← e]; exact ha))
  have kp6 : kd H6 p = 2 := K6.kk hk (by decide)
  have j6 : gI H6 15 p = 0 := by rw [at_gI (hK6.at (a := p) (by rw [kp5]; decide) p5)]; exact j5
  have x6 := hK6.at (a := p) (by rw [kp5]; decide) p5
  have r8_6 : gR H6 8 p = some q5 := by rw [at_gR x6]; exact r8_5
  have r9_6 : gR H6 9 p = some q16 := by rw [at_gR x6]; exact r9_5
  have hLq5_6 := hLq5_5.ks hK6 nq5_q27 (fun k e => by rw [e, kq27] at k; exact absurd k (by decide))
  have hM6 := hM5.ks hK6 nM_q27 (fun tb q => by rw [hT5] at q; cases q) (fun i hi => absurd hi (by omega))
  have hT6 : gR H6 100 q16 = none := by rw [at_gR (hK6.at (a := q16) (by rw [hM5.1]; decide) nM_q27)]; exact hT5
  show AW mX2_init G d Qr Qx _ _ H6 34 _ _
  refine r_putR dX2_init_34 fG_X2_25 (fun _ => by first | rfl | contradiction) (by first | assumption | (simp only [kd_sI, kd_sR, kd_sA, kd_sQ, kd_sL, kd_sD, ln_sI, ln_sR, ln_sA, ln_sQ, ln_sL, ln_sD, gI_sR, gI_sA, gI_sQ, gI_sL, gI_sD, gR_sI, gR_sA, gR_sQ, gR_sL, gR_sD, gA_sI, gA_sR, gA_sQ, gA_sL, gA_sD, gQ_sI, gQ_sR, gQ_sA, gQ_sL, gQ_sD, gL_sI, gL_sR, gL_sA, gL_sQ, gL_sD]; assumption) | simp [kd_sI, kd_sR, kd_sA, kd_sQ, kd_sL, kd_sD, ln_sI, ln_sR, ln_sA, ln_sQ, ln_sL, ln_sD, gI_sR, gI_sA, gI_sQ, gI_sL, gI_sD, gR_sI, gR_sA, gR_sQ, gR_sL, gR_sD, gA_sI, gA_sR, gA_sQ, gA_sL, gA_sD, gQ_sI, gQ_sR, gQ_sA, gQ_sL, gQ_sD, gL_sI, gL_sR, gL_sA, gL_sQ, gL_sD, kd_nO, kd_nA, *]) (by first | exact Or.inl ⟨_, rfl⟩ | exact Or.inr ⟨_, rfl⟩) ?_
  refine r_aload_n (i := 0) dX2_init_37 rfl rfl ?_
  refine r_new dX2_init_38 cT_J2 q155 q156 q87 (by decide +kernel) (by first | assumption | omega) (by first | assumption | omega) (fun q38 hq38 => ?_)
  have hq38' : kd H6 q38 = 0 := hq38
  have p7 : ¬ p = q38 := ne_of_kd kp6 hq38' (by decide)
  have nq5_q38 : q5 ≠ q38 := ne_of_kd hLq5_6.1 hq38' (by decide)
  have nq27_q38 : q27 ≠ q38 := ne_of_kd hLq27_6.1 hq38' (by decide)
  have nM_q38 : q16 ≠ q38 := ne_of_kd hM6.1 hq38' (by decide)
  refine AW.name (fun H7 hH7 => ?_)
  have K7' : Ks (fun a => a = p) H6 H7 := by rw [hH7]; exact ((Ks.rf (S := fun a => a = p)).sR (fun _ => rfl)).nO hq38
  have K7 := K6.tr K7'
  have kp7 : kd H7 p = 2 := K7.kk hk (by decide)
  have j7 : gI H7 15 p = 0 := by rw [hH7, gI_nO, if_neg p7]; exact j6
  have kq38 : kd H7 q38 = 20 := by rw [hH7, kd_nO, if_pos rfl]
  have zq38 : gI H7 97 q38 = 0 := by rw [hH7, gI_nO, if_pos rfl]
  have r8_7 : gR H7 8 p = some q5 := by rw [hH7, gR_nO, if_neg p7, gR_sRn (by decide)]; exact r8_6
  have r9_7 : gR H7 9 p = some q16 := by rw [hH7, gR_nO, if_neg p7, gR_sRn (by decide)]; exact r9_6
  have r10_7 : gR H7 10 p = some q27 := by rw [hH7, gR_nO, if_neg p7, gR_sRs]
  have hLq5_7 := hLq5_6.ks K7' (fun e => ne_of_kd kp6 hLq5_6.1 (by decide) e.symm) (fun k e => by rw [e, kp6] at k; exact absurd k (by decide))
  have hLq27_7 := hLq27_6.ks K7' (fun e => ne_of_kd kp6 hLq27_6.1 (by decide) e.symm) (fun k e => by rw [e, kp6] at k; exact absurd k (by decide))
  have hM7 := hM6.ks K7' (fun e => ne_of_kd kp6 hM6.1 (by decide) e.symm) (fun tb q => by rw [hT6] at q; cases q) (fun i hi => absurd hi (by omega))
  have hT7 : gR H7 100 q16 = none := by rw [at_gR (K7'.at (a := q16) (by rw [hM6.1]; decide) (fun e => ne_of_kd kp6 hM6.1 (by decide) e.symm))]; exact hT6
  refine r_dup dX2_init_41 rfl ?_
  refine r_callI (As := []) (mc' := 0) (ms' := 0) dX2_init_42 k_X2_11 rfl (by first | assumption | omega) (by first | assumption | omega) (by first | assumption | omega) (Nat.le_of_ble_eq_true rfl) ?_
  refine s_lsInit (xs := fun _ => 0) (by omega) kq38 zq38 (fun H8 hK8 hLq38_8 => ?_)
  have K8 : Ks (fun a => a = p) H H8 := K7.tr2 hK8 (fun a ha e => absurd (K6.fr hq38') (by rw [← e]; exact ha))
  have kp8 : kd H8 p = 2 := K8.kk hk (by decide)
  have j8 : gI H8 15 p = 0 := by rw [at_gI (hK8.at (a := p) (by rw [kp7]; decide) p7)]; exact j7
  have x8 := hK8.at (a := p) (by rw [kp7]; decide) p7
  have r8_8 : gR H8 8 p = some q5 := by rw [at_gR x8]; exact r8_7
  have r9_8 : gR H8 9 p = some q16 := by rw [at_gR x8]; exact r9_7
  have r10_8 : gR H8 10 p = some q27 := by rw [at_gR x8]; exact r10_7
  have hLq5_8 := hLq5_7.ks hK8 nq5_q38 (fun k e => by rw [e, kq38] at k; exact absurd k (by decide))
  have hLq27_8 := hLq27_7.ks hK8 nq27_q38 (fun k e => by rw [e, kq38] at k; exact absurd k (by decide))
  have hM8 := hM7.ks hK8 nM_q38 (fun tb q => by rw [hT7] at q; cases q) (fun i hi => absurd hi (by omega))
  have hT8 : gR H8 100 q16 = none := by rw [at_gR (hK8.at (a := q16) (by rw [hM7.1]; decide) nM_q38)]; exact hT7
  show AW mX2_init G d Qr Qx _ _ H8 45 _ _
  refine r_putR dX2_init_45 fG_X2_28 (fun _ => by first | rfl | contradiction) (by first | assumption | (simp only [kd_sI, kd_sR, kd_sA, kd_sQ, kd_sL, kd_sD, ln_sI, ln_sR, ln_sA, ln_sQ, ln_sL, ln_sD, gI_sR, gI_sA, gI_sQ, gI_sL, gI_sD, gR_sI, gR_sA, gR_sQ, gR_sL, gR_sD, gA_sI, gA_sR, gA_sQ, gA_sL, gA_sD, gQ_sI, gQ_sR, gQ_sA, gQ_sL, gQ_sD, gL_sI, gL_sR, gL_sA, gL_sQ, gL_sD]; assumption) | simp [kd_sI, kd_sR, kd_sA, kd_sQ, kd_sL, kd_sD, ln_sI, ln_sR, ln_sA, ln_sQ, ln_sL, ln_sD, gI_sR, gI_sA, gI_sQ, gI_sL, gI_sD, gR_sI, gR_sA, gR_sQ, gR_sL, gR_sD, gA_sI, gA_sR, gA_sQ, gA_sL, gA_sD, gQ_sI, gQ_sR, gQ_sA, gQ_sL, gQ_sD, gL_sI, gL_sR, gL_sA, gL_sQ, gL_sD, kd_nO, kd_nA, *]) (by first | exact Or.inl ⟨_, rfl⟩ | exact Or.inr ⟨_, rfl⟩) ?_
  refine r_aload_n (i := 0) dX2_init_48 rfl rfl ?_
  refine r_new dX2_init_49 cT_J2 q155 q156 q87 (by decide +kernel) (by first | assumption | omega) (by first | assumption | omega) (fun q49 hq49 => ?_)
  have hq49' : kd H8 q49 = 0 := hq49
  have p9 : ¬ p = q49 := ne_of_kd kp8 hq49' (by decide)
  have nq5_q49 : q5 ≠ q49 := ne_of_kd hLq5_8.1 hq49' (by decide)
  have nq27_q49 : q27 ≠ q49 := ne_of_kd hLq27_8.1 hq49' (by decide)
  have nq38_q49 : q38 ≠ q49 := ne_of_kd hLq38_8.1 hq49' (by decide)
  have nM_q49 : q16 ≠ q49 := ne_of_kd hM8.1 hq49' (by decide)
  refine AW.name (fun H9 hH9 => ?_)
  have K9' : Ks (fun a => a = p) H8 H9 := by rw [hH9]; exact ((Ks.rf (S := fun a => a = p)).sR (fun _ => rfl)).nO hq49
  have K9 := K8.tr K9'
  have kp9 : kd H9 p = 2 := K9.kk hk (by decide)
  have j9 : gI H9 15 p = 0 := by rw [hH9, gI_nO, if_neg p9]; exact j8
  have kq49 : kd H9 q49 = 20 := by rw [hH9, kd_nO, if_pos rfl]
  have zq49 : gI H9 97 q49 = 0 := by rw [hH9, gI_nO, if_pos rfl]
  have r8_9 : gR H9 8 p = some q5 := by rw [hH9, gR_nO, if_neg p9, gR_sRn (by decide)]; exact r8_8
  have r9_9 : gR H9 9 p = some q16 := by rw [hH9, gR_nO, if_neg p9, gR_sRn (by decide)]; exact r9_8
  have r10_9 : gR H9 10 p = some q27 := by rw [hH9, gR_nO, if_neg p9, gR_sRn (by decide)]; exact r10_8
  have r11_9 : gR H9 11 p = some q38 := by rw [hH9, gR_nO, if_neg p9, gR_sRs]
  have hLq5_9 := hLq5_8.ks K9' (fun e => ne_of_kd kp8 hLq5_8.1 (by decide) e.symm) (fun k e => by rw [e, kp8] at k; exact absurd k (by decide))
  have hLq27_9 := hLq27_8.ks K9' (fun e => ne_of_kd kp8 hLq27_8.1 (by decide) e.symm) (fun k e => by rw [e, kp8] at k; exact absurd k (by decide))
  have hLq38_9 := hLq38_8.ks K9' (fun e => ne_of_kd kp8 hLq38_8.1 (by decide) e.symm) (fun k e => by rw [e, kp8] at k; exact absurd k (by decide))
  have hM9 := hM8.ks K9' (fun e => ne_of_kd kp8 hM8.1 (by decide) e.symm) (fun tb q => by rw [hT8] at q; cases q) (fun i hi => absurd hi (by omega))
  have hT9 : gR H9 100 q16 = none := by rw [at_gR (K9'.at (a := q16) (by rw [hM8.1]; decide) (fun e => ne_of_kd kp8 hM8.1 (by decide) e.symm))]; exact hT8
  refine r_dup dX2_init_52 rfl ?_
  refine r_callI (As := []) (mc' := 0) (ms' := 0) dX2_init_53 k_X2_11 rfl (by first | assumption | omega) (by first | assumption | omega) (by first | assumption | omega) (Nat.le_of_ble_eq_true rfl) ?_
  refine s_lsInit (xs := fun _ => 0) (by omega) kq49 zq49 (fun H10 hK10 hLq49_10 => ?_)
  have K10 : Ks (fun a => a = p) H H10 := K9.tr2 hK10 (fun a ha e => absurd (K8.fr hq49') (by rw [← e]; exact ha))
  have kp10 : kd H10 p = 2 := K10.kk hk (by decide)
  have j10 : gI H10 15 p = 0 := by rw [at_gI (hK10.at (a := p) (by rw [kp9]; decide) p9)]; exact j9
  have x10 := hK10.at (a := p) (by rw [kp9]; decide) p9
  have r8_10 : gR H10 8 p = some q5 := by rw [at_gR x10]; exact r8_9
  have r9_10 : gR H10 9 p = some q16 := by rw [at_gR x10]; exact r9_9
  have r10_10 : gR H10 10 p = some q27 := by rw [at_gR x10]; exact r10_9
  have r11_10 : gR H10 11 p = some q38 := by rw [at_gR x10]; exact r11_9
  have hLq5_10 := hLq5_9.ks hK10 nq5_q49 (fun k e => by rw [e, kq49] at k; exact absurd k (by decide))
  have hLq27_10 := hLq27_9.ks hK10 nq27_q49 (fun k e => by rw [e, kq49] at k; exact absurd k (by decide))
  have hLq38_10 := hLq38_9.ks hK10 nq38_q49 (fun k e => by rw [e, kq49] at k; exact absurd k (by decide))
  have hM10 := hM9.ks hK10 nM_q49 (fun tb q => by rw [hT9] at q; cases q) (fun i hi => absurd hi (by omega))
  have hT10 : gR H10 100 q16 = none := by rw [at_gR (hK10.at (a := q16) (by rw [hM9.1]; decide) nM_q49)]; exact hT9
  show AW mX2_init G d Qr Qx _ _ H10 56 _ _
  refine AW.st0 (fun z0' => ?_)
  refine r_putR dX2_init_56 fG_X2_31 (fun _ => by first | rfl | contradiction) (by first | assumption | (simp only [kd_sI, kd_sR, kd_sA, kd_sQ, kd_sL, kd_sD, ln_sI, ln_sR, ln_sA, ln_sQ, ln_sL, ln_sD, gI_sR, gI_sA, gI_sQ, gI_sL, gI_sD, gR_sI, gR_sA, gR_sQ, gR_sL, gR_sD, gA_sI, gA_sR, gA_sQ, gA_sL, gA_sD, gQ_sI, gQ_sR, gQ_sA, gQ_sL, gQ_sD, gL_sI, gL_sR, gL_sA, gL_sQ, gL_sD]; assumption) | simp [kd_sI, kd_sR, kd_sA, kd_sQ, kd_sL, kd_sD, ln_sI, ln_sR, ln_sA, ln_sQ, ln_sL, ln_sD, gI_sR, gI_sA, gI_sQ, gI_sL, gI_sD, gR_sI, gR_sA, gR_sQ, gR_sL, gR_sD, gA_sI, gA_sR, gA_sQ, gA_sL, gA_sD, gQ_sI, gQ_sR, gQ_sA, gQ_sL, gQ_sD, gL_sI, gL_sR, gL_sA, gL_sQ, gL_sD, kd_nO, kd_nA, *]) (by first | exact Or.inl ⟨_, rfl⟩ | exact Or.inr ⟨_, rfl⟩) ?_
  refine r_aload_n (i := 0) dX2_init_59 rfl rfl ?_
  refine r_bipush (v := nI 20) dX2_init_60 (by decide) ?_
  refine r_putI dX2_init_62 fG_X2_34 (fun _ => by first | rfl | contradiction) (by first | assumption | (simp only [kd_sI, kd_sR, kd_sA, kd_sQ, kd_sL, kd_sD, ln_sI, ln_sR, ln_sA, ln_sQ, ln_sL, ln_sD, gI_sR, gI_sA, gI_sQ, gI_sL, gI_sD, gR_sI, gR_sA, gR_sQ, gR_sL, gR_sD, gA_sI, gA_sR, gA_sQ, gA_sL, gA_sD, gQ_sI, gQ_sR, gQ_sA, gQ_sL, gQ_sD, gL_sI, gL_sR, gL_sA, gL_sQ, gL_sD]; assumption) | simp [kd_sI, kd_sR, kd_sA, kd_sQ, kd_sL, kd_sD, ln_sI, ln_sR, ln_sA, ln_sQ, ln_sL, ln_sD, gI_sR, gI_sA, gI_sQ, gI_sL, gI_sD, gR_sI, gR_sA, gR_sQ, gR_sL, gR_sD, gA_sI, gA_sR, gA_sQ, gA_sL, gA_sD, gQ_sI, gQ_sR, gQ_sA, gQ_sL, gQ_sD, gL_sI, gL_sR, gL_sA, gL_sQ, gL_sD, kd_nO, kd_nA, *]) (by first | rfl | assumption) (by first | rfl | assumption) ?_
  refine r_aload_n (i := 0) dX2_init_65 rfl rfl ?_
  refine r_iconst (v := nI 2) dX2_init_66 (by decide) ?_
  refine r_putI dX2_init_67 fG_X2_38 (fun _ => by first | rfl | contradiction) (by first | assumption | (simp only [kd_sI, kd_sR, kd_sA, kd_sQ, kd_sL, kd_sD, ln_sI, ln_sR, ln_sA, ln_sQ, ln_sL, ln_sD, gI_sR, gI_sA, gI_sQ, gI_sL, gI_sD, gR_sI, gR_sA, gR_sQ, gR_sL, gR_sD, gA_sI, gA_sR, gA_sQ, gA_sL, gA_sD, gQ_sI, gQ_sR, gQ_sA, gQ_sL, gQ_sD, gL_sI, gL_sR, gL_sA, gL_sQ, gL_sD]; assumption) | simp [kd_sI, kd_sR, kd_sA, kd_sQ, kd_sL, kd_sD, ln_sI, ln_sR, ln_sA, ln_sQ, ln_sL, ln_sD, gI_sR, gI_sA, gI_sQ, gI_sL, gI_sD, gR_sI, gR_sA, gR_sQ, gR_sL, gR_sD, gA_sI, gA_sR, gA_sQ, gA_sL, gA_sD, gQ_sI, gQ_sR, gQ_sA, gQ_sL, gQ_sD, gL_sI, gL_sR, gL_sA, gL_sQ, gL_sD, kd_nO, kd_nA, *]) (by first | rfl | assumption) (by first | rfl | assumption) ?_
  refine r_return dX2_init_70 rfl ?_
  have hF : Ks (fun a => a = p) H10 (sI (sI (sR H10 12 p (some q49)) 13 p (nI 20)) 14 p (nI 2)) := (((Ks.rf (S := fun a => a = p)).sR (fun _ => rfl)).sI (fun _ => rfl)).sI (fun _ => rfl)
  have fr5 : kd H q5 = 0 := hq5
  have fr16 : kd H q16 = 0 := K2.fr hq16'
  have fr27 : kd H q27 = 0 := K4.fr hq27'
  have fr38 : kd H q38 = 0 := K6.fr hq38'
  have fr49 : kd H q49 = 0 := K8.fr hq49'
  have kl5 := hLq5_10.1
  have kl16 := hM10.1
  have kl27 := hLq27_10.1
  have kl38 := hLq38_10.1
  have kl49 := hLq49_10.1
  have e1 := nat_g0
  have d12 : q5 ≠ q16 := n12
  have nO5 : (fun a => if a = q5 ∨ a = q16 then 8 * t + 2 else if a = q27 then 8 * t + 3 else if a = q38 then 8 * t + 4 else if a = q49 then 8 * t + 5 else O a) q5 = 8 * t + 2 := if_pos (Or.inl rfl)
  have nO16 : (fun a => if a = q5 ∨ a = q16 then 8 * t + 2 else if a = q27 then 8 * t + 3 else if a = q38 then 8 * t + 4 else if a = q49 then 8 * t + 5 else O a) q16 = 8 * t + 2 := if_pos (Or.inr rfl)
  have d16a : q16 ≠ q27 := nM_q27
  have d16b : q16 ≠ q38 := nM_q38
  have d16c : q16 ≠ q49 := nM_q49
  have nO27 : (fun a => if a = q5 ∨ a = q16 then 8 * t + 2 else if a = q27 then 8 * t + 3 else if a = q38 then 8 * t + 4 else if a = q49 then 8 * t + 5 else O a) q27 = 8 * t + 3 := by
    show (if q27 = q5 ∨ q27 = q16 then _ else _) = _
    rw [if_neg (fun q => q.elim (fun e => nq5_q27 e.symm) (fun e => d16a e.symm)), if_pos rfl]
  have nO38 : (fun a => if a = q5 ∨ a = q16 then 8 * t + 2 else if a = q27 then 8 * t + 3 else if a = q38 then 8 * t + 4 else if a = q49 then 8 * t + 5 else O a) q38 = 8 * t + 4 := by
    show (if q38 = q5 ∨ q38 = q16 then _ else _) = _
    rw [if_neg (fun q => q.elim (fun e => nq5_q38 e.symm) (fun e => d16b e.symm)), if_neg (fun e => nq27_q38 e.symm), if_pos rfl]
  have nO49 : (fun a => if a = q5 ∨ a = q16 then 8 * t + 2 else if a = q27 then 8 * t + 3 else if a = q38 then 8 * t + 4 else if a = q49 then 8 * t + 5 else O a) q49 = 8 * t + 5 := by
    show (if q49 = q5 ∨ q49 = q16 then _ else _) = _
    rw [if_neg (fun q => q.elim (fun e => nq5_q49 e.symm) (fun e => d16c e.symm)), if_neg (fun e => nq27_q49 e.symm), if_neg (fun e => nq38_q49 e.symm), if_pos rfl]
  have old : ∀ a, kd H a ≠ 0 → (fun a => if a = q5 ∨ a = q16 then 8 * t + 2 else if a = q27 then 8 * t + 3 else if a = q38 then 8 * t + 4 else if a = q49 then 8 * t + 5 else O a) a = O a := by
    intro a ha
    show (if a = q5 ∨ a = q16 then _ else _) = _
    rw [if_neg (fun q => q.elim (fun e => ha (by rw [e]; exact fr5)) (fun e => ha (by rw [e]; exact fr16))), if_neg (fun e => ha (by rw [e]; exact fr27)), if_neg (fun e => ha (by rw [e]; exact fr38)), if_neg (fun e => ha (by rw [e]; exact fr49))]
  obtain ⟨O', hO'⟩ : ∃ O' : Nat → Nat, O' = fun a => if a = q5 ∨ a = q16 then 8 * t + 2 else if a = q27 then 8 * t + 3 else if a = q38 then 8 * t + 4 else if a = q49 then 8 * t + 5 else O a := ⟨_, rfl⟩
  rw [← hO'] at nO5 nO16 nO27 nO38 nO49 old
  have hpl : ∀ q, kd H10 q = 20 → ¬ q = p := fun q hq e => by rw [e, kp10] at hq; exact absurd hq (by decide)
  have hem : ∀ (k : kd H10 (gSt G 1) = 4096), ¬ gSt G 1 = p := fun k e => by rw [e, kp10] at k; exact absurd k (by decide)
  have hst : ∀ (l q : Nat), O' q = l → OwL (sI (sI (sR H10 12 p (some q49)) 13 p (nI 20)) 14 p (nI 2)) O' l q (gSt G 1) := fun l q h => ⟨h, fun k => absurd z0' k⟩
  refine hQ _ O' ⟨K10.tr hF, old, z0'⟩ ⟨(q5, q16, q27, q38, q49), ht, ?_, ?_, ?_, ?_, ?_⟩
  · refine ⟨⟨kp10, ?_, ?_, ?_, ?_, ?_, ?_, ?_, ?_⟩, by rw [old p (by rw [hk]; decide)]; exact hO⟩
    · show gR (sR H10 12 p (some q49)) 8 p = some q5
      rw [gR_sRn (by decide)]
      exact r8_10
    · show gR (sR H10 12 p (some q49)) 9 p = some q16
      rw [gR_sRn (by decide)]
      exact r9_10
    · show gR (sR H10 12 p (some q49)) 10 p = some q27
      rw [gR_sRn (by decide)]
      exact r10_10
    · show gR (sR H10 12 p (some q49)) 11 p = some q38
      rw [gR_sRn (by decide)]
      exact r11_10
    · show gR (sR H10 12 p (some q49)) 12 p = some q49
      exact gR_sRs
    · rw [gI_sIn (by decide), gI_sIs]
      rfl
    · rw [gI_sIs]
      rfl
    · rw [gI_sIn (by decide), gI_sIn (by decide)]
      exact j10
  · refine ⟨gSt G 1, fun _ => 0, fun _ => 0, fun _ => 0, ?_, by rw [e1.1]; decide, hst _ _ nO5, ?_, ⟨nO16, fun tb q => ?_, fun i hi => absurd hi (by rw [e1.1]; omega)⟩, fun y hy => absurd hy (by rw [e1.1]; omega)⟩
    · rw [e1.1]
      exact hLq5_10.ks hF (hpl _ kl5) hem
    · rw [e1.1]
      exact hM10.ks hF (fun e => by rw [e, kp10] at kl16; exact absurd kl16 (by decide)) (fun tb q => by rw [hT10] at q; cases q) (fun i hi => absurd hi (by omega))
    · rw [show gR (sI (sI (sR H10 12 p (some q49)) 13 p (nI 20)) 14 p (nI 2)) 100 q16 = gR H10 100 q16 from gR_sRn (by decide), hT10] at q
      cases q
  · rw [e1.2.1]
    exact ⟨gSt G 1, fun _ => 0, fun _ => 0, fun _ => 0, fun _ => 0, hLq27_10.ks hF (hpl _ kl27) hem, by omega, hst _ _ nO27, fun t ht => absurd ht (by omega), fun i j hi => absurd hi (by omega)⟩
  · rw [e1.2.2.1]
    exact ⟨gSt G 1, fun _ => 0, fun _ => 0, fun _ => 0, fun _ _ => 0, hLq38_10.ks hF (hpl _ kl38) hem, by omega, hst _ _ nO38, fun t ht => absurd ht (by omega), fun i j hi => absurd hi (by omega), fun i hi => absurd hi (by omega)⟩
  · rw [e1.2.2.2]
    exact ⟨gSt G 1, fun _ => 0, hLq49_10.ks hF (hpl _ kl49) hem, by omega, hst _ _ nO49, fun t ht => absurd ht (by omega), fun i j hi => absurd hi (by omega)⟩
end
