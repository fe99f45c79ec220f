set_option maxRecDepth 100000
/-! RELATIONS OF HEAPS: what an address holds, what may change -/
abbrev AtT : Type := Nat × Nat × (Nat → Int32) × (Nat → Option Nat) × (Nat → Nat → Int32) × (Nat → Nat → Option Nat) × (Nat → Int64) × (Nat → UInt64)
/-- all that an address holds -/
def At (H : AH) (a : Nat) : AtT := (kd H a, ln H a, (fun f => gI H f a), (fun f => gR H f a), (fun k => gA H k a), (fun k => gQ H k a), gL H a, gD H a)
section
variable {H H' : AH} {a b f k q n : Nat} {v : Int32} {r : Option Nat} {F : Nat → Int32} {Fq : Nat → Option Nat}
theorem at_kd (h : At H' a = At H a) : kd H' a = kd H a := congrArg Prod.fst h
theorem at_ln (h : At H' a = At H a) : ln H' a = ln H a := congrArg (fun x => x.2.1) h
theorem at_gI (h : At H' a = At H a) (f : Nat) : gI H' f a = gI H f a := congrFun (congrArg (fun x => x.2.2.1) h) f
theorem at_gR (h : At H' a = At H a) (f : Nat) : gR H' f a = gR H f a := congrFun (congrArg (fun x => x.2.2.2.1) h) f
theorem at_gA (h : At H' a = At H a) (k : Nat) : gA H' k a = gA H k a := congrFun (congrArg (fun x => x.2.2.2.2.1) h) k
theorem at_gQ (h : At H' a = At H a) (k : Nat) : gQ H' k a = gQ H k a := congrFun (congrArg (fun x => x.2.2.2.2.2.1) h) k
theorem At_sI (hb : b ≠ a) : At (sI H f a v) b = At H b := by
  have e : (fun f' => gI (sI H f a v) f' b) = fun f' => gI H f' b := by
    funext f'
    rw [gI_sI, if_neg (fun q => hb q.2)]
  unfold At
  rw [e]
  rfl
theorem At_sR (hb : b ≠ a) : At (sR H f a r) b = At H b := by
  have e : (fun f' => gR (sR H f a r) f' b) = fun f' => gR H f' b := by
    funext f'
    rw [gR_sR, if_neg (fun q => hb q.2)]
  unfold At
  rw [e]
  rfl
theorem At_sA (hb : b ≠ a) : At (sA H k a F) b = At H b := by
  have e : (fun k' => gA (sA H k a F) k' b) = fun k' => gA H k' b := by
    funext k'
    rw [gA_sA, if_neg (fun q => hb q.2)]
  unfold At
  rw [e]
  rfl
theorem At_sQ (hb : b ≠ a) : At (sQ H k a Fq) b = At H b := by
  have e : (fun k' => gQ (sQ H k a Fq) k' b) = fun k' => gQ H k' b := by
    funext k'
    rw [gQ_sQ, if_neg (fun q => hb q.2)]
  unfold At
  rw [e]
  rfl
theorem At_nO (hb : b ≠ q) : At (nO H q k) b = At H b := by
  have e1 : (fun f' => gI (nO H q k) f' b) = fun f' => gI H f' b := by
    funext f'
    rw [gI_nO, if_neg hb]
  have e2 : (fun f' => gR (nO H q k) f' b) = fun f' => gR H f' b := by
    funext f'
    rw [gR_nO, if_neg hb]
  unfold At
  rw [e1, e2, kd_nO, if_neg hb]
  rfl
theorem At_nA (hb : b ≠ q) : At (nA H q k n) b = At H b := by
  have e1 : (fun k' => gA (nA H q k n) k' b) = fun k' => gA H k' b := by
    funext k'
    rw [gA_nA, if_neg (fun q => hb q.2)]
  have e2 : (fun k' => gQ (nA H q k n) k' b) = fun k' => gQ H k' b := by
    funext k'
    rw [gQ_nA, if_neg (fun q => hb q.2)]
  unfold At
  rw [e1, e2, kd_nA, if_neg hb, ln_nA, if_neg hb, gL_nA, if_neg hb, gD_nA, if_neg hb]
  rfl
end
/-- H' is H but for the addresses in S, and for new ones -/
def Ks (S : Nat → Prop) (H H' : AH) : Prop := ∀ a, kd H a ≠ 0 → kd H' a = kd H a ∧ (¬ S a → At H' a = At H a)
theorem Ks.rf {S : Nat → Prop} {H : AH} : Ks S H H := fun _ _ => ⟨rfl, fun _ => rfl⟩
theorem Ks.kk {S : Nat → Prop} {H H' : AH} (h : Ks S H H') {a k : Nat} (ha : kd H a = k) (hk : k ≠ 0) : kd H' a = k := (h a (by rw [ha]; exact hk)).1.trans ha
theorem Ks.nz {S : Nat → Prop} {H H' : AH} (h : Ks S H H') {a : Nat} (ha : kd H a ≠ 0) : kd H' a ≠ 0 := by rw [(h a ha).1]; exact ha
theorem Ks.fr {S : Nat → Prop} {H H' : AH} (h : Ks S H H') {a : Nat} (ha : kd H' a = 0) : kd H a = 0 := Classical.byContradiction fun q => (h.nz q) ha
theorem Ks.at {S : Nat → Prop} {H H' : AH} (h : Ks S H H') {a : Nat} (ha : kd H a ≠ 0) (hs : ¬ S a) : At H' a = At H a := (h a ha).2 hs
theorem Ks.tr {S : Nat → Prop} {H H1 H2 : AH} (h : Ks S H H1) (k : Ks S H1 H2) : Ks S H H2 := fun a ha => ⟨(k a (h.nz ha)).1.trans (h a ha).1, fun hs => ((k a (h.nz ha)).2 hs).trans ((h a ha).2 hs)⟩
theorem Ks.mono {S S' : Nat → Prop} {H H' : AH} (h : Ks S H H') (hs : ∀ a, kd H a ≠ 0 → S a → S' a) : Ks S' H H' := fun a ha => ⟨(h a ha).1, fun q => (h a ha).2 (fun z => q (hs a ha z))⟩
/-- the second step's set seen from the first heap -/
theorem Ks.tr2 {S S2 : Nat → Prop} {H H1 H2 : AH} (h : Ks S H H1) (k : Ks S2 H1 H2) (hs : ∀ a, kd H a ≠ 0 → S2 a → S a) : Ks S H H2 := fun a ha => ⟨(k a (h.nz ha)).1.trans (h a ha).1, fun q => ((k a (h.nz ha)).2 (fun z => q (hs a ha z))).trans ((h a ha).2 q)⟩
section
variable {S : Nat → Prop} {H H1 : AH} {a f k q n : Nat} {v : Int32} {r : Option Nat} {F : Nat → Int32} {Fq : Nat → Option Nat}
theorem Ks.sI (h : Ks S H H1) (hs : kd H a ≠ 0 → S a) : Ks S H (sI H1 f a v) := fun b hb => ⟨(h b hb).1, fun q => (At_sI (fun e => q (by subst e; exact hs hb))).trans ((h b hb).2 q)⟩
theorem Ks.sR (h : Ks S H H1) (hs : kd H a ≠ 0 → S a) : Ks S H (sR H1 f a r) := fun b hb => ⟨(h b hb).1, fun q => (At_sR (fun e => q (by subst e; exact hs hb))).trans ((h b hb).2 q)⟩
theorem Ks.sA (h : Ks S H H1) (hs : kd H a ≠ 0 → S a) : Ks S H (sA H1 k a F) := fun b hb => ⟨(h b hb).1, fun q => (At_sA (fun e => q (by subst e; exact hs hb))).trans ((h b hb).2 q)⟩
theorem Ks.sQ (h : Ks S H H1) (hs : kd H a ≠ 0 → S a) : Ks S H (sQ H1 k a Fq) := fun b hb => ⟨(h b hb).1, fun q => (At_sQ (fun e => q (by subst e; exact hs hb))).trans ((h b hb).2 q)⟩
theorem Ks.nO (h : Ks S H H1) (hq : kd H1 q = 0) : Ks S H (nO H1 q k) := by
  intro b hb
  have hne : b ≠ q := fun e => by subst e; exact h.nz hb hq
  exact ⟨by rw [kd_nO, if_neg hne]; exact (h b hb).1, fun z => (At_nO hne).trans ((h b hb).2 z)⟩
theorem Ks.nA (h : Ks S H H1) (hq : kd H1 q = 0) : Ks S H (nA H1 q k n) := by
  intro b hb
  have hne : b ≠ q := fun e => by subst e; exact h.nz hb hq
  exact ⟨by rw [kd_nA, if_neg hne]; exact (h b hb).1, fun z => (At_nA hne).trans ((h b hb).2 z)⟩
end
theorem ne_of_kd {H : AH} {a b j k : Nat} (ha : kd H a = j) (hb : kd H b = k) (h : j ≠ k) : a ≠ b := fun e => h (ha.symm.trans (by rw [e]; exact hb))
theorem isObj.ks {G : Gl} {H H' : AH} {S : Nat → Prop} (hk : Ks S H H') {a : Nat} (h : isObj G H a) : isObj G H' a := by
  rcases h with ⟨h1, h2⟩ | h
  · have e := (hk a (by omega)).1
    exact Or.inl ⟨by omega, by omega⟩
  · exact Or.inr h
theorem gI_sIn {H : AH} {f f' a a' : Nat} {v : Int32} (h : f' ≠ f) : gI (sI H f a v) f' a' = gI H f' a' := by rw [gI_sI, if_neg (fun q => h q.1)]
theorem gR_sRn {H : AH} {f f' a a' : Nat} {v : Option Nat} (h : f' ≠ f) : gR (sR H f a v) f' a' = gR H f' a' := by rw [gR_sR, if_neg (fun q => h q.1)]
/-! ARRAY LISTS -/
/-- a list L of n objects xs, in the array e (the shared empty one at first) -/
def LsO (G : Gl) (H : AH) (L n : Nat) (xs : Nat → Nat) (e : Nat) : Prop := kd H L = 20 ∧ gI H 97 L = nI n ∧ gR H 96 L = some e ∧ (∀ i, i < n → isObj G H (xs i)) ∧ ((e = gSt G 1 ∧ n = 0) ∨ (kd H e = 4096 ∧ n ≤ ln H e ∧ 10 ≤ ln H e ∧ ln H e ≤ 22 ∧ ∀ i, i < n → gQ H 4096 e i = some (xs i)))
theorem LsO.ks {G : Gl} {H H' : AH} {S : Nat → Prop} {L n : Nat} {xs : Nat → Nat} {e : Nat} (h : LsO G H L n xs e) (hk : Ks S H H') (h1 : ¬ S L) (h2 : kd H e = 4096 → ¬ S e) : LsO G H' L n xs e := by
  obtain ⟨a1, a2, a3, a4, a5⟩ := h
  have e1 := hk.at (a := L) (by rw [a1]; decide) h1
  refine ⟨by rw [at_kd e1]; exact a1, by rw [at_gI e1]; exact a2, by rw [at_gR e1]; exact a3, fun i hi => (a4 i hi).ks hk, ?_⟩
  rcases a5 with a5 | ⟨b1, b2, b3, b4, b5⟩
  · exact Or.inl a5
  · have e2 := hk.at (a := e) (by rw [b1]; decide) (h2 b1)
    exact Or.inr ⟨by rw [at_kd e2]; exact b1, by rw [at_ln e2]; exact b2, by rw [at_ln e2]; exact b3, by rw [at_ln e2]; exact b4, fun i hi => by rw [at_gQ e2]; exact b5 i hi⟩
theorem LsO.to {G : Gl} {H : AH} {L n : Nat} {xs ys : Nat → Nat} {e : Nat} (h : LsO G H L n xs e) (hx : ∀ i, i < n → xs i = ys i) : LsO G H L n ys e := by
  obtain ⟨a1, a2, a3, a4, a5⟩ := h
  refine ⟨a1, a2, a3, fun i hi => by rw [← hx i hi]; exact a4 i hi, ?_⟩
  rcases a5 with a5 | ⟨b1, b2, b3, b4, b5⟩
  · exact Or.inl a5
  · exact Or.inr ⟨b1, b2, b3, b4, fun i hi => by rw [← hx i hi]; exact b5 i hi⟩
