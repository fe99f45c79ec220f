set_option maxRecDepth 100000
/-! THE ABSTRACT MACHINE: values, heaps by field numbers, the judgement AW over the kit's W -/
abbrev AV : Type := Int32 ⊕ (Option Nat ⊕ (Int64 ⊕ (UInt32 ⊕ UInt64)))
abbrev vI (x : Int32) : AV := .inl x
abbrev vR (r : Option Nat) : AV := .inr (.inl r)
abbrev vL (x : Int64) : AV := .inr (.inr (.inl x))
abbrev vF (x : UInt32) : AV := .inr (.inr (.inr (.inl x)))
abbrev vD (x : UInt64) : AV := .inr (.inr (.inr (.inr x)))
def tV : AV → Value
  | .inl x => .int x
  | .inr (.inl r) => va_rf r
  | .inr (.inr (.inl x)) => .long x
  | .inr (.inr (.inr (.inl x))) => .float x
  | .inr (.inr (.inr (.inr x))) => .double x
def isW : AV → Bool
  | .inl _ => false
  | .inr (.inl _) => false
  | .inr (.inr (.inl _)) => true
  | .inr (.inr (.inr (.inl _))) => false
  | .inr (.inr (.inr (.inr _))) => true
theorem cat_tV (v : AV) : (tV v).category = if isW v then 2 else 1 := by
  rcases v with x | r | x | x | x
  · rfl
  · cases r <;> rfl
  · rfl
  · rfl
  · rfl
def catS : List AV → Nat
  | [] => 0
  | v :: l => (if isW v then 2 else 1) + catS l
theorem catS_eq (l : List AV) : ((l.map tV).map fun v => v.category).sum = catS l := by
  induction l with
  | nil => rfl
  | cons a l ih => simp only [List.map_cons, List.sum_cons, ih, cat_tV, catS]
/-- heaps: kinds, lengths, int fields, reference fields, int arrays by kind, reference arrays by kind, long and double arrays -/
abbrev AH : Type := (Nat → Nat) × (Nat → Nat) × (Nat → Nat → Int32) × (Nat → Nat → Option Nat) × (Nat → Nat → Nat → Int32) × (Nat → Nat → Nat → Option Nat) × (Nat → Nat → Int64) × (Nat → Nat → UInt64)
def kd (H : AH) (a : Nat) : Nat := H.1 a
def ln (H : AH) (a : Nat) : Nat := H.2.1 a
def gI (H : AH) (f a : Nat) : Int32 := H.2.2.1 f a
def gR (H : AH) (f a : Nat) : Option Nat := H.2.2.2.1 f a
def gA (H : AH) (k a : Nat) : Nat → Int32 := H.2.2.2.2.1 k a
def gQ (H : AH) (k a : Nat) : Nat → Option Nat := H.2.2.2.2.2.1 k a
def gL (H : AH) (a : Nat) : Nat → Int64 := H.2.2.2.2.2.2.1 a
def gD (H : AH) (a : Nat) : Nat → UInt64 := H.2.2.2.2.2.2.2 a
def up2 {α : Type} (f : Nat → Nat → α) (i j : Nat) (v : α) : Nat → Nat → α := fun i' j' => if i' = i ∧ j' = j then v else f i' j'
def sI (H : AH) (f a : Nat) (v : Int32) : AH := (H.1, H.2.1, up2 H.2.2.1 f a v, H.2.2.2)
def sR (H : AH) (f a : Nat) (v : Option Nat) : AH := (H.1, H.2.1, H.2.2.1, up2 H.2.2.2.1 f a v, H.2.2.2.2)
def sA (H : AH) (k a : Nat) (F : Nat → Int32) : AH := (H.1, H.2.1, H.2.2.1, H.2.2.2.1, up2 H.2.2.2.2.1 k a F, H.2.2.2.2.2)
def sQ (H : AH) (k a : Nat) (F : Nat → Option Nat) : AH := (H.1, H.2.1, H.2.2.1, H.2.2.2.1, H.2.2.2.2.1, up2 H.2.2.2.2.2.1 k a F, H.2.2.2.2.2.2)
def sL (H : AH) (a : Nat) (F : Nat → Int64) : AH := (H.1, H.2.1, H.2.2.1, H.2.2.2.1, H.2.2.2.2.1, H.2.2.2.2.2.1, va_up H.2.2.2.2.2.2.1 a F, H.2.2.2.2.2.2.2)
def sD (H : AH) (a : Nat) (F : Nat → UInt64) : AH := (H.1, H.2.1, H.2.2.1, H.2.2.2.1, H.2.2.2.2.1, H.2.2.2.2.2.1, H.2.2.2.2.2.2.1, va_up H.2.2.2.2.2.2.2 a F)
/-- a new object of kind k at q: all its fields 0 or null -/
def nO (H : AH) (q k : Nat) : AH := (va_up H.1 q k, H.2.1, fun f a => if a = q then 0 else H.2.2.1 f a, fun f a => if a = q then none else H.2.2.2.1 f a, H.2.2.2.2)
/-- a new array of kind k and length n at q -/
def nA (H : AH) (q k n : Nat) : AH := (va_up H.1 q k, va_up H.2.1 q n, H.2.2.1, H.2.2.2.1, up2 H.2.2.2.2.1 k q (fun _ => 0), up2 H.2.2.2.2.2.1 k q (fun _ => none), va_up H.2.2.2.2.2.2.1 q (fun _ => 0), va_up H.2.2.2.2.2.2.2 q (fun _ => 0))
section Get
variable {H : AH} {f a f' a' k k' n q : Nat} {v : Int32} {r : Option Nat} {F : Nat → Int32} {Fq : Nat → Option Nat} {Fl : Nat → Int64} {Fd : Nat → UInt64}
theorem kd_sI : kd (sI H f a v) = kd H := rfl
theorem kd_sR : kd (sR H f a r) = kd H := rfl
theorem kd_sA : kd (sA H k a F) = kd H := rfl
theorem kd_sQ : kd (sQ H k a Fq) = kd H := rfl
theorem kd_sL : kd (sL H a Fl) = kd H := rfl
theorem kd_sD : kd (sD H a Fd) = kd H := rfl
theorem ln_sI : ln (sI H f a v) = ln H := rfl
theorem ln_sR : ln (sR H f a r) = ln H := rfl
theorem ln_sA : ln (sA H k a F) = ln H := rfl
theorem ln_sQ : ln (sQ H k a Fq) = ln H := rfl
theorem ln_sL : ln (sL H a Fl) = ln H := rfl
theorem ln_sD : ln (sD H a Fd) = ln H := rfl
theorem gI_sI : gI (sI H f a v) f' a' = if f' = f ∧ a' = a then v else gI H f' a' := rfl
theorem gI_sIs : gI (sI H f a v) f a = v := by rw [gI_sI, if_pos ⟨rfl, rfl⟩]
theorem gI_sR : gI (sR H f a r) = gI H := rfl
theorem gI_sA : gI (sA H k a F) = gI H := rfl
theorem gI_sQ : gI (sQ H k a Fq) = gI H := rfl
theorem gI_sL : gI (sL H a Fl) = gI H := rfl
theorem gI_sD : gI (sD H a Fd) = gI H := rfl
theorem gR_sI : gR (sI H f a v) = gR H := rfl
theorem gR_sR : gR (sR H f a r) f' a' = if f' = f ∧ a' = a then r else gR H f' a' := rfl
theorem gR_sRs : gR (sR H f a r) f a = r := by rw [gR_sR, if_pos ⟨rfl, rfl⟩]
theorem gR_sA : gR (sA H k a F) = gR H := rfl
theorem gR_sQ : gR (sQ H k a Fq) = gR H := rfl
theorem gR_sL : gR (sL H a Fl) = gR H := rfl
theorem gR_sD : gR (sD H a Fd) = gR H := rfl
theorem gA_sI : gA (sI H f a v) = gA H := rfl
theorem gA_sR : gA (sR H f a r) = gA H := rfl
theorem gA_sA : gA (sA H k a F) k' a' = if k' = k ∧ a' = a then F else gA H k' a' := rfl
theorem gA_sAs : gA (sA H k a F) k a = F := by rw [gA_sA, if_pos ⟨rfl, rfl⟩]
theorem gA_sQ : gA (sQ H k a Fq) = gA H := rfl
theorem gA_sL : gA (sL H a Fl) = gA H := rfl
theorem gA_sD : gA (sD H a Fd) = gA H := rfl
theorem gQ_sI : gQ (sI H f a v) = gQ H := rfl
theorem gQ_sR : gQ (sR H f a r) = gQ H := rfl
theorem gQ_sA : gQ (sA H k a F) = gQ H := rfl
theorem gQ_sQ : gQ (sQ H k a Fq) k' a' = if k' = k ∧ a' = a then Fq else gQ H k' a' := rfl
theorem gQ_sQs : gQ (sQ H k a Fq) k a = Fq := by rw [gQ_sQ, if_pos ⟨rfl, rfl⟩]
theorem gQ_sL : gQ (sL H a Fl) = gQ H := rfl
theorem gQ_sD : gQ (sD H a Fd) = gQ H := rfl
theorem gL_sI : gL (sI H f a v) = gL H := rfl
theorem gL_sR : gL (sR H f a r) = gL H := rfl
theorem gL_sA : gL (sA H k a F) = gL H := rfl
theorem gL_sQ : gL (sQ H k a Fq) = gL H := rfl
theorem gL_sLs : gL (sL H a Fl) a = Fl := by simp [gL, sL, va_up]
theorem gL_sD : gL (sD H a Fd) = gL H := rfl
theorem gD_sDs : gD (sD H a Fd) a = Fd := by simp [gD, sD, va_up]
theorem gD_sL : gD (sL H a Fl) = gD H := rfl
theorem kd_nO : kd (nO H q k) a = if a = q then k else kd H a := rfl
theorem ln_nO : ln (nO H q k) = ln H := rfl
theorem gI_nO : gI (nO H q k) f a = if a = q then 0 else gI H f a := rfl
theorem gR_nO : gR (nO H q k) f a = if a = q then none else gR H f a := rfl
theorem gA_nO : gA (nO H q k) = gA H := rfl
theorem gQ_nO : gQ (nO H q k) = gQ H := rfl
theorem gL_nO : gL (nO H q k) = gL H := rfl
theorem gD_nO : gD (nO H q k) = gD H := rfl
theorem kd_nA : kd (nA H q k n) a = if a = q then k else kd H a := rfl
theorem ln_nA : ln (nA H q k n) a = if a = q then n else ln H a := rfl
theorem gI_nA : gI (nA H q k n) = gI H := rfl
theorem gR_nA : gR (nA H q k n) = gR H := rfl
theorem gA_nA : gA (nA H q k n) k' a = if k' = k ∧ a = q then (fun _ => 0) else gA H k' a := rfl
theorem gQ_nA : gQ (nA H q k n) k' a = if k' = k ∧ a = q then (fun _ => none) else gQ H k' a := rfl
theorem gL_nA : gL (nA H q k n) a = if a = q then (fun _ => 0) else gL H a := rfl
theorem gD_nA : gD (nA H q k n) a = if a = q then (fun _ => 0) else gD H a := rfl
end Get
/-- the slots of an object of class ci -/
def fsOf (H : AH) (ci a : Nat) : List Value := (cF ci).map fun e => if e.1 = 1 then va_rf (gR H e.2 a) else if e.1 = 2 then .float (gI H e.2 a).toUInt32 else .int (gI H e.2 a)
def cellOf (dA : Nat → ClassId) (H : AH) (a : Nat) : va_E :=
  if kd H a < 1000 then .inr (kd H a - 1, fsOf H (kd H a - 1) a)
  else if kd H a < 4000 then .inl (dA (kd H a / 1000), ln H a, .inl (gA H (kd H a) a))
  else if kd H a < 6000 then .inl (dA (kd H a / 1000), ln H a, .inr (.inr (.inr (.inr (gQ H (kd H a) a)))))
  else if kd H a < 7000 then .inl (dA 6, ln H a, .inr (.inl (gL H a)))
  else .inl (dA 7, ln H a, .inr (.inr (.inr (.inl (gD H a)))))
/-- what a run stands on: the launch, the classes, the arrays' classes, the first address of its own, the constants' addresses -/
abbrev Gl : Type := Launch × va_G × (Nat → ClassId) × Nat × (Nat → Nat)
def gBase (G : Gl) (q : Nat) : Prop := G.2.2.2.1 ≤ q
def tysOf (dA : Nat → ClassId) : List (ClassId × FieldType) := [(dA 1, .int), (dA 2, .byte), (dA 3, .boolean), (dA 4, .object "java/lang/Object"), (dA 5, .object "java/util/HashMap$Node"), (dA 6, .long), (dA 7, .double)]
def cover (dA : Nat → ClassId) (H : AH) (ws : va_W) : Prop := ∀ a, kd H a ≠ 0 → ∃ k : Nat, ws[k]? = some (a, cellOf dA H a)
/-- nobody holds the cell's monitor -/
def MonFree (Hc : Heap) (a : Nat) : Prop := ∃ cell : Cell, Hc[a]? = some cell ∧ cell.monitor.owner = none ∧ cell.monitor.count = 0
/-- the links of chains are held by nobody -/
def MonF (ws : va_W) (Hc : Heap) : Prop := ∀ (k a ci : Nat) (fs : List Value), ws[k]? = some (a, .inr (ci, fs)) → (ci = 8 ∨ ci = 9) → MonFree Hc a
/-- monitors are as they were -/
def MP (Hc H1 : Heap) : Prop := ∀ (a : Nat) (c : Cell), Hc[a]? = some c → ∃ c' : Cell, H1[a]? = some c' ∧ c'.monitor = c.monitor
theorem MonFree.mp {Hc H1 : Heap} {a : Nat} (h : MonFree Hc a) (hm : MP Hc H1) : MonFree H1 a := by
  obtain ⟨cell, g1, g2, g3⟩ := h
  obtain ⟨c', h1, h2⟩ := hm a cell g1
  exact ⟨c', h1, by rw [h2]; exact g2, by rw [h2]; exact g3⟩
theorem MonF.kept {ws : va_W} {Hc H1 : Heap} (h : MonF ws Hc) (hm : MP Hc H1) : MonF ws H1 := fun k a ci fs hk hc => (h k a ci fs hk hc).mp hm
theorem MonF.setA {ws : va_W} {Hc H1 : Heap} {j a : Nat} {e0 : va_E} {e1 : ClassId × vp_A} (h : MonF ws Hc) (hm : MP Hc H1) (hj : ws[j]? = some (a, e0)) : MonF (ws.set j (a, .inl e1)) H1 := by
  intro k b ci fs hk hc
  have hlt : j < ws.length := (List.getElem?_eq_some_iff.mp hj).1
  by_cases hkj : j = k
  · subst hkj
    rw [List.getElem?_set_self hlt] at hk
    cases hk
  · rw [List.getElem?_set_ne hkj] at hk
    exact (h k b ci fs hk hc).mp hm
theorem MonF.setO {ws : va_W} {Hc H1 : Heap} {j a ci0 : Nat} {f0 f1 : List Value} (h : MonF ws Hc) (hm : MP Hc H1) (hj : ws[j]? = some (a, .inr (ci0, f0))) : MonF (ws.set j (a, .inr (ci0, f1))) H1 := by
  intro k b ci fs hk hc
  have hlt : j < ws.length := (List.getElem?_eq_some_iff.mp hj).1
  by_cases hkj : j = k
  · subst hkj
    rw [List.getElem?_set_self hlt] at hk
    cases hk
    exact (h j a ci0 f0 hj hc).mp hm
  · rw [List.getElem?_set_ne hkj] at hk
    exact (h k b ci fs hk hc).mp hm
theorem MonF.push {ws : va_W} {Hc H1 : Heap} {q : Nat} {e : va_E} (h : MonF ws Hc) (hm : MP Hc H1) (hq : ∀ ci fs, e = .inr (ci, fs) → (ci = 8 ∨ ci = 9) → MonFree H1 q) : MonF (ws ++ [(q, e)]) H1 := by
  intro k b ci fs hk hc
  by_cases hl : k < ws.length
  · rw [List.getElem?_append_left hl] at hk
    exact (h k b ci fs hk hc).mp hm
  · rw [List.getElem?_append_right (by omega)] at hk
    have hz : k - ws.length < 1 := (List.getElem?_eq_some_iff.mp hk).1
    rw [show k - ws.length = 0 by omega] at hk
    cases hk
    exact hq ci fs rfl hc
theorem MonF.pushA {ws : va_W} {Hc H1 : Heap} {q : Nat} {e : ClassId × vp_A} (h : MonF ws Hc) (hm : MP Hc H1) : MonF (ws ++ [(q, .inl e)]) H1 := h.push hm (fun _ _ h => by cases h)
def Rep (G : Gl) (H : AH) (Hc : Heap) : Prop := ∃ ws : va_W, va_P G.2.1 vwCl ws Hc ∧ va_D (gBase G) ws ∧ cover G.2.2.1 H ws ∧ MonF ws Hc
theorem cover_set {dA : Nat → ClassId} {H H' : AH} {ws : va_W} {k a : Nat} {e0 e : va_E} (hc : cover dA H ws) (hk : ws[k]? = some (a, e0)) (he : kd H' a ≠ 0 → cellOf dA H' a = e)
    (ho : ∀ b, b ≠ a → kd H' b ≠ 0 → kd H b ≠ 0 ∧ cellOf dA H' b = cellOf dA H b) : cover dA H' (ws.set k (a, e)) := by
  intro b hb
  have hlt : k < ws.length := (List.getElem?_eq_some_iff.mp hk).1
  by_cases hba : b = a
  · subst hba
    exact ⟨k, by rw [List.getElem?_set_self hlt, he hb]⟩
  · obtain ⟨h1, h2⟩ := ho b hba hb
    obtain ⟨j, hj⟩ := hc b h1
    refine ⟨j, ?_⟩
    have hne : k ≠ j := by
      intro h
      subst h
      rw [hk] at hj
      exact hba (congrArg Prod.fst (Option.some.inj hj)).symm
    rw [List.getElem?_set_ne hne, hj, h2]
theorem cover_push {dA : Nat → ClassId} {H H' : AH} {ws : va_W} {q : Nat} {e : va_E} (hc : cover dA H ws) (he : kd H' q ≠ 0 → cellOf dA H' q = e)
    (ho : ∀ b, b ≠ q → kd H' b ≠ 0 → kd H b ≠ 0 ∧ cellOf dA H' b = cellOf dA H b) : cover dA H' (ws ++ [(q, e)]) := by
  intro b hb
  by_cases hba : b = q
  · subst hba
    exact ⟨ws.length, by rw [List.getElem?_append_right (Nat.le_refl _), Nat.sub_self, he hb]; rfl⟩
  · obtain ⟨h1, h2⟩ := ho b hba hb
    obtain ⟨j, hj⟩ := hc b h1
    have hlt : j < ws.length := (List.getElem?_eq_some_iff.mp hj).1
    exact ⟨j, by rw [List.getElem?_append_left hlt, hj, h2]⟩
theorem fresh_of {dA : Nat → ClassId} {H : AH} {ws : va_W} {q : Nat} {e : va_E} {A : Nat → Prop} (hc : cover dA H ws) (hD : va_D A (ws ++ [(q, e)])) : kd H q = 0 := by
  by_cases h : kd H q = 0
  · exact h
  · obtain ⟨j, hj⟩ := hc q h
    have hlt : j < ws.length := (List.getElem?_eq_some_iff.mp hj).1
    have h1 := hD.1 j ws.length (q, cellOf dA H q) (q, e) (by rw [List.getElem?_append_left hlt, hj]) (by rw [List.getElem?_append_right (Nat.le_refl _), Nat.sub_self]; rfl) rfl
    omega
/-- what one abstract heap has of another: all that it can be asked -/
theorem Rep.mono {G : Gl} {H H' : AH} {Hc : Heap} (h : Rep G H Hc) (ho : ∀ b, kd H' b ≠ 0 → kd H b ≠ 0 ∧ cellOf G.2.2.1 H' b = cellOf G.2.2.1 H b) : Rep G H' Hc := by
  obtain ⟨ws, h1, h2, h3, h4⟩ := h
  refine ⟨ws, h1, h2, fun b hb => ?_, h4⟩
  obtain ⟨g1, g2⟩ := ho b hb
  rw [g2]
  exact h3 b g1
/-! locals -/
def lset : List (Option AV) → Nat → AV → List (Option AV)
  | [], _, _ => []
  | _ :: t, 0, v => some v :: t
  | h :: t, 1, v => (match h with | some (.inr (.inr (.inl _))) => none | some (.inr (.inr (.inr (.inr _)))) => none | x => x) :: lset t 0 v
  | h :: t, n + 2, v => h :: lset t (n + 1) v
theorem lset_length (l : List (Option AV)) (n : Nat) (v : AV) : (lset l n v).length = l.length := by
  induction l generalizing n with
  | nil => rfl
  | cons h t ih =>
    match n with
    | 0 => rfl
    | 1 => simp only [lset, List.length_cons, ih]
    | n + 2 => simp only [lset, List.length_cons, ih]
theorem lset_get (l : List (Option AV)) (n j : Nat) (v w : AV) (h : (lset l n v)[j]? = some (some w)) : (j = n ∧ w = v) ∨ (j ≠ n ∧ l[j]? = some (some w) ∧ (j + 1 = n → isW w = false)) := by
  induction l generalizing n j with
  | nil => simp [lset] at h
  | cons a t ih =>
    match n with
    | 0 =>
      cases j with
      | zero =>
        simp only [lset, List.getElem?_cons_zero, Option.some.injEq] at h
        exact Or.inl ⟨rfl, h.symm⟩
      | succ j =>
        simp only [lset, List.getElem?_cons_succ] at h
        exact Or.inr ⟨by omega, by rw [List.getElem?_cons_succ]; exact h, fun h => by omega⟩
    | 1 =>
      cases j with
      | zero =>
        simp only [lset, List.getElem?_cons_zero, Option.some.injEq] at h
        refine Or.inr ⟨by omega, ?_, fun _ => ?_⟩
        · rw [List.getElem?_cons_zero]
          split at h
          · cases h
          · cases h
          · rw [h]
        · split at h
          · cases h
          · cases h
          · rename_i h1 h2
            rcases w with x | r | x | x | x
            · rfl
            · rfl
            · exact absurd h (h1 x)
            · rfl
            · exact absurd h (h2 x)
      | succ j =>
        simp only [lset, List.getElem?_cons_succ] at h
        rcases ih 0 j h with ⟨e1, e2⟩ | ⟨e1, e2, e3⟩
        · exact Or.inl ⟨by omega, e2⟩
        · exact Or.inr ⟨by omega, by rw [List.getElem?_cons_succ]; exact e2, fun q => e3 (by omega)⟩
    | n + 2 =>
      cases j with
      | zero =>
        simp only [lset, List.getElem?_cons_zero, Option.some.injEq] at h
        exact Or.inr ⟨by omega, by rw [List.getElem?_cons_zero, h], fun q => by omega⟩
      | succ j =>
        simp only [lset, List.getElem?_cons_succ] at h
        rcases ih (n + 1) j h with ⟨e1, e2⟩ | ⟨e1, e2, e3⟩
        · exact Or.inl ⟨by omega, e2⟩
        · exact Or.inr ⟨by omega, by rw [List.getElem?_cons_succ]; exact e2, fun q => e3 (by omega)⟩
def LR (arr : Array Slot) (ls : List (Option AV)) : Prop := arr.size = ls.length ∧ lv_wf arr ∧ ∀ (i : Nat) (v : AV), ls[i]? = some (some v) → arr[i]? = some (.val (tV v))
/-- the known locals, as the kit lists them -/
def lpairs (ls : List (Option AV)) : List (Nat × Value) := (List.range ls.length).filterMap fun i => match ls[i]? with
  | some (some v) => some (i, tV v)
  | _ => none
theorem lpairs_mem {ls : List (Option AV)} {i : Nat} {v : AV} (h : ls[i]? = some (some v)) : (i, tV v) ∈ lpairs ls := by
  refine List.mem_filterMap.mpr ⟨i, List.mem_range.mpr (List.getElem?_eq_some_iff.mp h).1, ?_⟩
  rw [h]
theorem lpairs_of {ls : List (Option AV)} {q : Nat × Value} (h : q ∈ lpairs ls) : ∃ v, ls[q.1]? = some (some v) ∧ q.2 = tV v := by
  obtain ⟨i, -, h2⟩ := List.mem_filterMap.mp h
  split at h2
  · rename_i v hv
    cases h2
    exact ⟨v, hv, rfl⟩
  · cases h2
theorem LR.has {arr : Array Slot} {ls : List (Option AV)} (h : LR arr ls) : lv_has arr ls.length (lpairs ls) := by
  refine ⟨h.1, h.2.1, fun q hq => ?_⟩
  obtain ⟨v, h1, h2⟩ := lpairs_of hq
  rw [h2]
  exact h.2.2 _ _ h1
/-- behind a store of one word -/
theorem LR.set {arr' : Array Slot} {ls : List (Option AV)} {i : Nat} {v : AV} (h : lv_has arr' ls.length ((i, tV v) :: (lpairs ls).filter (fun q => !(q.1 == i) && !(q.1 + 1 == i && q.2.category == 2)))) : LR arr' (lset ls i v) := by
  refine ⟨by rw [lset_length]; exact h.1, h.2.1, fun j w hj => ?_⟩
  rcases lset_get ls i j v w hj with ⟨rfl, rfl⟩ | ⟨h1, h2, h3⟩
  · exact h.2.2 _ List.mem_cons_self
  · refine h.2.2 (j, tV w) (List.mem_cons_of_mem _ (List.mem_filter.mpr ⟨lpairs_mem h2, ?_⟩))
    have e1 : (j == i) = false := by simpa using h1
    simp only [e1, Bool.not_false, Bool.true_and, Bool.not_eq_true', Bool.and_eq_false_imp, beq_iff_eq]
    intro hji
    rw [cat_tV, h3 hji]
    rfl
/-- behind a store of two words -/
def lset2 (ls : List (Option AV)) (i : Nat) (v : AV) : List (Option AV) := (lset ls i v).set (i + 1) none
theorem LR.set2 {arr' : Array Slot} {ls : List (Option AV)} {i : Nat} {v : AV} (h : lv_has arr' ls.length ((i, tV v) :: (lpairs ls).filter (fun q => !(q.1 == i) && (!(q.1 == i + 1) && !(q.1 + 1 == i && q.2.category == 2))))) : LR arr' (lset2 ls i v) := by
  refine ⟨by rw [lset2, List.length_set, lset_length]; exact h.1, h.2.1, fun j w hj => ?_⟩
  by_cases hj1 : j = i + 1
  · subst hj1
    rw [lset2, List.getElem?_set] at hj
    simp at hj
  · rw [lset2, List.getElem?_set_ne (fun q => hj1 q.symm)] at hj
    rcases lset_get ls i j v w hj with ⟨rfl, rfl⟩ | ⟨h1, h2, h3⟩
    · exact h.2.2 _ List.mem_cons_self
    · refine h.2.2 (j, tV w) (List.mem_cons_of_mem _ (List.mem_filter.mpr ⟨lpairs_mem h2, ?_⟩))
      have e1 : (j == i) = false := by simpa using h1
      have e2 : (j == i + 1) = false := by simpa using hj1
      simp only [e1, e2, Bool.not_false, Bool.true_and, Bool.not_eq_true', Bool.and_eq_false_imp, beq_iff_eq]
      intro hji
      rw [cat_tV, h3 hji]
      rfl
