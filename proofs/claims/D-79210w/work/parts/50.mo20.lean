set_option maxRecDepth 100000
def inR (B : List Nat) (p lo hi : Nat) : Bool := decide (p < B.length ∧ lo ≤ B.getD p 0 ∧ B.getD p 0 ≤ hi)
def tk (B : List Nat) (lo hi p : Nat) : Option Nat × Nat := if inR B p lo hi then (some (B.getD p 0 - lo), p + 1) else (none, p)
def numLp (B : List Nat) : Nat → Nat → Nat → Nat × Nat
  | 0, n, p => (n, p)
  | k + 1, n, p => if 0 < n ∧ inR B p 48 57 = true then numLp B k (10 * n + (B.getD p 0 - 48)) (p + 1) else (n, p)
def pNum (B : List Nat) (p : Nat) : Option Nat × Nat := if inR B p 48 57 then (some (numLp B 2 (B.getD p 0 - 48) (p + 1)).1, (numLp B 2 (B.getD p 0 - 48) (p + 1)).2) else (none, p)
def namLp (B : List Nat) : Nat → Nat → Nat
  | 0, p => p
  | k + 1, p => if inR B p 97 122 then namLp B k (p + 1) else p
def pName (B : List Nat) (p : Nat) : Option (List Nat) × Nat := if namLp B 3 p = p then (none, p) else (some ((B.drop p).take (namLp B 3 p - p)), namLp B 3 p)
def hereV (B : List Nat) (p : Nat) : Int32 := if p < B.length then nI (B.getD p 0) else -1
def nameT (T : Nat → Int32) (nm : List Nat) (a : Nat) : Nat → Int32 := fun i => if i = a + 4 then nI nm.length else if a + 1 ≤ i ∧ i < a + 1 + nm.length then nI (nm.getD (i - (a + 1)) 0) else T i
theorem upd_upd {f : Nat → Int32} {i : Nat} {x y : Int32} : upd (upd f i x) i y = upd f i y := by
  funext j
  unfold upd
  by_cases h : j = i
  · rw [if_pos h, if_pos h]
  · rw [if_neg h, if_neg h, if_neg h]
theorem here_in {B : List Nat} (hB : ∀ b, b ∈ B → 32 ≤ b ∧ b ≤ 126) {p lo hi : Nat} (hl : lo ≤ 126) (hh : hi ≤ 126) : inB (hereV B p) (nI lo) (nI hi) = inR B p lo hi := by
  unfold hereV inR inB
  by_cases hp : p < B.length
  · have := hB _ (getD_mem hp)
    rw [if_pos hp]
    by_cases h1 : lo ≤ B.getD p 0 ∧ B.getD p 0 ≤ hi
    · rw [decide_eq_true ⟨nI_le h1.1 (by omega), nI_le h1.2 (by omega)⟩, decide_eq_true ⟨hp, h1⟩]
    · rw [decide_eq_false (fun q => h1 ⟨(nI_leI (by omega) (by omega)).mp q.1, (nI_leI (by omega) (by omega)).mp q.2⟩), decide_eq_false (fun q => h1 q.2)]
  · rw [if_neg hp, decide_eq_false (p := p < B.length ∧ _) (fun q => hp q.1), decide_eq_false]
    intro q
    have h1 := Int32.le_iff_toInt_le.mp q.1
    rw [nI_toInt (by omega), show (-1 : Int32).toInt = -1 by decide] at h1
    omega
theorem here_eq {B : List Nat} (hB : ∀ b, b ∈ B → 32 ≤ b ∧ b ≤ 126) {p c : Nat} (hc : c ≤ 126) : hereV B p = nI c ↔ inR B p c c = true := by
  unfold hereV inR
  rw [decide_eq_true_iff]
  by_cases hp : p < B.length
  · have := hB _ (getD_mem hp)
    rw [if_pos hp]
    constructor
    · intro h
      have := (nI_eq (by omega) (by omega)).mp h
      omega
    · intro h
      rw [show B.getD p 0 = c by omega]
  · rw [if_neg hp]
    constructor
    · intro h
      have h1 := congrArg Int32.toInt h
      rw [nI_toInt (by omega), show (-1 : Int32).toInt = -1 by decide] at h1
      omega
    · intro h
      exact absurd h.1 hp
theorem here_c {B : List Nat} {p lo hi : Nat} (h : inR B p lo hi = true) : p < B.length ∧ lo ≤ B.getD p 0 ∧ B.getD p 0 ≤ hi ∧ hereV B p = nI (B.getD p 0) := by
  unfold inR at h
  rw [decide_eq_true_iff] at h
  refine ⟨h.1, h.2.1, h.2.2, ?_⟩
  unfold hereV
  rw [if_pos h.1]
theorem namLp_le {B : List Nat} : ∀ (k p : Nat), p ≤ namLp B k p ∧ namLp B k p ≤ p + k ∧ (p ≤ B.length → namLp B k p ≤ B.length) := by
  intro k
  induction k with
  | zero => intro p; exact ⟨Nat.le_refl _, Nat.le_refl _, fun h => h⟩
  | succ k ih =>
    intro p
    unfold namLp
    cases h : inR B p 97 122 with
    | true =>
      obtain ⟨a, b, c⟩ := ih (p + 1)
      have := (here_c h).1
      refine ⟨?_, ?_, fun _ => ?_⟩
      · show p ≤ namLp B k (p + 1); omega
      · show namLp B k (p + 1) ≤ _; omega
      · exact c (by omega)
    | false => exact ⟨Nat.le_refl _, by show p ≤ _; omega, fun h => h⟩
theorem nm_get {B : List Nat} {p n k : Nat} (hk : k < n) : ((B.drop p).take n).getD k 0 = B.getD (p + k) 0 := by
  simp only [List.getD_eq_getElem?_getD]
  rw [List.getElem?_take, if_pos hk, List.getElem?_drop]
theorem nm_len {B : List Nat} {p n : Nat} (h : p + n ≤ B.length) : ((B.drop p).take n).length = n := by
  rw [List.length_take, List.length_drop]
  omega
section Mo20
variable {G : Gl} {d m : Nat} {ma : Nat → Nat} {Qr : Option AV → AH → Prop} {Qx : String → Nat → AH → Prop} {H : AH}
theorem s_here {B : List Nat} {p : Nat} (hM : MO H m ma) (hR : BufR H m ma B) (hS : gI H 90 m = nI p) (hp : p ≤ 60)
    (hQ : Qr (some (vI (hereV B p))) H) : AMet G d 0 0 yX3_here wX3_here H [vR (some m)] Qr Qx := by
  have e0 := hM.1
  obtain ⟨b1, b2, b3, b4⟩ := hR
  obtain ⟨e88a, e88b, e88c⟩ : gR H 88 m = some (ma 88) ∧ kd H (ma 88) = 1088 ∧ ln H (ma 88) = 60 := hM.2 88 (by decide)
  unfold hereV at hQ
  refine AMet.of (M := mX3_here) (maxL := 1) rfl rfl (Nat.le_of_ble_eq_true rfl) ?_
  show AW mX3_here _ _ _ _ _ _ _ 0 [some (vR (some m))] []
  refine r_aload_n (i := 0) dX3_here_0 rfl rfl ?_
  refine r_getI dX3_here_1 fR_X3_221 (by first | assumption | (simp only [kd_sI, kd_sR, kd_sA, kd_sQ, kd_sL, kd_sD, ln_sI, ln_sR, ln_sA, ln_sQ, ln_sL, ln_sD, gI_sR, gI_sA, gI_sQ, gI_sL, gI_sD, gR_sI, gR_sA, gR_sQ, gR_sL, gR_sD, gA_sI, gA_sR, gA_sQ, gA_sL, gA_sD, gQ_sI, gQ_sR, gQ_sA, gQ_sL, gQ_sD, gL_sI, gL_sR, gL_sA, gL_sQ, gL_sD]; assumption) | simp [kd_sI, kd_sR, kd_sA, kd_sQ, kd_sL, kd_sD, ln_sI, ln_sR, ln_sA, ln_sQ, ln_sL, ln_sD, gI_sR, gI_sA, gI_sQ, gI_sL, gI_sD, gR_sI, gR_sA, gR_sQ, gR_sL, gR_sD, gA_sI, gA_sR, gA_sQ, gA_sL, gA_sD, gQ_sI, gQ_sR, gQ_sA, gQ_sL, gQ_sD, gL_sI, gL_sR, gL_sA, gL_sQ, gL_sD, kd_nO, kd_nA, *]) (by first | assumption | exact gI_sIs | exact gR_sRs | with_reducible rfl | (simp only [kd_sI, kd_sR, kd_sA, kd_sQ, kd_sL, kd_sD, ln_sI, ln_sR, ln_sA, ln_sQ, ln_sL, ln_sD, gI_sR, gI_sA, gI_sQ, gI_sL, gI_sD, gR_sI, gR_sA, gR_sQ, gR_sL, gR_sD, gA_sI, gA_sR, gA_sQ, gA_sL, gA_sD, gQ_sI, gQ_sR, gQ_sA, gQ_sL, gQ_sD, gL_sI, gL_sR, gL_sA, gL_sQ, gL_sD]; first | done | assumption | with_reducible rfl) | rfl) ?_
  refine r_aload_n (i := 0) dX3_here_4 rfl rfl ?_
  refine r_getI dX3_here_5 fR_X3_209 (by first | assumption | (simp only [kd_sI, kd_sR, kd_sA, kd_sQ, kd_sL, kd_sD, ln_sI, ln_sR, ln_sA, ln_sQ, ln_sL, ln_sD, gI_sR, gI_sA, gI_sQ, gI_sL, gI_sD, gR_sI, gR_sA, gR_sQ, gR_sL, gR_sD, gA_sI, gA_sR, gA_sQ, gA_sL, gA_sD, gQ_sI, gQ_sR, gQ_sA, gQ_sL, gQ_sD, gL_sI, gL_sR, gL_sA, gL_sQ, gL_sD]; assumption) | simp [kd_sI, kd_sR, kd_sA, kd_sQ, kd_sL, kd_sD, ln_sI, ln_sR, ln_sA, ln_sQ, ln_sL, ln_sD, gI_sR, gI_sA, gI_sQ, gI_sL, gI_sD, gR_sI, gR_sA, gR_sQ, gR_sL, gR_sD, gA_sI, gA_sR, gA_sQ, gA_sL, gA_sD, gQ_sI, gQ_sR, gQ_sA, gQ_sL, gQ_sD, gL_sI, gL_sR, gL_sA, gL_sQ, gL_sD, kd_nO, kd_nA, *]) (by first | assumption | exact gI_sIs | exact gR_sRs | with_reducible rfl | (simp only [kd_sI, kd_sR, kd_sA, kd_sQ, kd_sL, kd_sD, ln_sI, ln_sR, ln_sA, ln_sQ, ln_sL, ln_sD, gI_sR, gI_sA, gI_sQ, gI_sL, gI_sD, gR_sI, gR_sA, gR_sQ, gR_sL, gR_sD, gA_sI, gA_sR, gA_sQ, gA_sL, gA_sD, gQ_sI, gQ_sR, gQ_sA, gQ_sL, gQ_sD, gL_sI, gL_sR, gL_sA, gL_sQ, gL_sD]; first | done | assumption | with_reducible rfl) | rfl) ?_
  refine r_icmp_ge (tgt := 23) dX3_here_8 (by decide) (fun h8 => ?_) (fun h8 => ?_)
  · have hlt : ¬ p < B.length := fun q => absurd h8 (nI_ge q (by omega))
    rw [if_neg hlt] at hQ
    refine r_iconst (v := -1) dX3_here_23 (by decide) ?_
    refine r_ireturn dX3_here_24 rfl (by first | rfl | assumption | exact vp_nar_int _ | exact pk_nc _) ?_
    exact hQ
  · have hlt : p < B.length := Nat.lt_of_not_le (fun q => h8 (nI_le q (by omega)))
    rw [if_pos hlt] at hQ
    have := b3 p hlt
    refine r_aload_n (i := 0) dX3_here_11 rfl rfl ?_
    refine r_getR dX3_here_12 fR_X3_50 (by first | assumption | (simp only [kd_sI, kd_sR, kd_sA, kd_sQ, kd_sL, kd_sD, ln_sI, ln_sR, ln_sA, ln_sQ, ln_sL, ln_sD, gI_sR, gI_sA, gI_sQ, gI_sL, gI_sD, gR_sI, gR_sA, gR_sQ, gR_sL, gR_sD, gA_sI, gA_sR, gA_sQ, gA_sL, gA_sD, gQ_sI, gQ_sR, gQ_sA, gQ_sL, gQ_sD, gL_sI, gL_sR, gL_sA, gL_sQ, gL_sD]; assumption) | simp [kd_sI, kd_sR, kd_sA, kd_sQ, kd_sL, kd_sD, ln_sI, ln_sR, ln_sA, ln_sQ, ln_sL, ln_sD, gI_sR, gI_sA, gI_sQ, gI_sL, gI_sD, gR_sI, gR_sA, gR_sQ, gR_sL, gR_sD, gA_sI, gA_sR, gA_sQ, gA_sL, gA_sD, gQ_sI, gQ_sR, gQ_sA, gQ_sL, gQ_sD, gL_sI, gL_sR, gL_sA, gL_sQ, gL_sD, kd_nO, kd_nA, *]) (by first | assumption | exact gI_sIs | exact gR_sRs | with_reducible rfl | (simp only [kd_sI, kd_sR, kd_sA, kd_sQ, kd_sL, kd_sD, ln_sI, ln_sR, ln_sA, ln_sQ, ln_sL, ln_sD, gI_sR, gI_sA, gI_sQ, gI_sL, gI_sD, gR_sI, gR_sA, gR_sQ, gR_sL, gR_sD, gA_sI, gA_sR, gA_sQ, gA_sL, gA_sD, gQ_sI, gQ_sR, gQ_sA, gQ_sL, gQ_sD, gL_sI, gL_sR, gL_sA, gL_sQ, gL_sD]; first | done | assumption | with_reducible rfl) | rfl) ?_
    refine r_aload_n (i := 0) dX3_here_15 rfl rfl ?_
    refine r_getI dX3_here_16 fR_X3_221 (by first | assumption | (simp only [kd_sI, kd_sR, kd_sA, kd_sQ, kd_sL, kd_sD, ln_sI, ln_sR, ln_sA, ln_sQ, ln_sL, ln_sD, gI_sR, gI_sA, gI_sQ, gI_sL, gI_sD, gR_sI, gR_sA, gR_sQ, gR_sL, gR_sD, gA_sI, gA_sR, gA_sQ, gA_sL, gA_sD, gQ_sI, gQ_sR, gQ_sA, gQ_sL, gQ_sD, gL_sI, gL_sR, gL_sA, gL_sQ, gL_sD]; assumption) | simp [kd_sI, kd_sR, kd_sA, kd_sQ, kd_sL, kd_sD, ln_sI, ln_sR, ln_sA, ln_sQ, ln_sL, ln_sD, gI_sR, gI_sA, gI_sQ, gI_sL, gI_sD, gR_sI, gR_sA, gR_sQ, gR_sL, gR_sD, gA_sI, gA_sR, gA_sQ, gA_sL, gA_sD, gQ_sI, gQ_sR, gQ_sA, gQ_sL, gQ_sD, gL_sI, gL_sR, gL_sA, gL_sQ, gL_sD, kd_nO, kd_nA, *]) (by first | assumption | exact gI_sIs | exact gR_sRs | with_reducible rfl | (simp only [kd_sI, kd_sR, kd_sA, kd_sQ, kd_sL, kd_sD, ln_sI, ln_sR, ln_sA, ln_sQ, ln_sL, ln_sD, gI_sR, gI_sA, gI_sQ, gI_sL, gI_sD, gR_sI, gR_sA, gR_sQ, gR_sL, gR_sD, gA_sI, gA_sR, gA_sQ, gA_sL, gA_sD, gQ_sI, gQ_sR, gQ_sA, gQ_sL, gQ_sD, gL_sI, gL_sR, gL_sA, gL_sQ, gL_sD]; first | done | assumption | with_reducible rfl) | rfl) ?_
    refine r_iald dX3_here_19 (by first | assumption | (simp only [kd_sI, kd_sR, kd_sA, kd_sQ, kd_sL, kd_sD, ln_sI, ln_sR, ln_sA, ln_sQ, ln_sL, ln_sD, gI_sR, gI_sA, gI_sQ, gI_sL, gI_sD, gR_sI, gR_sA, gR_sQ, gR_sL, gR_sD, gA_sI, gA_sR, gA_sQ, gA_sL, gA_sD, gQ_sI, gQ_sR, gQ_sA, gQ_sL, gQ_sD, gL_sI, gL_sR, gL_sA, gL_sQ, gL_sD]; assumption) | simp [kd_sI, kd_sR, kd_sA, kd_sQ, kd_sL, kd_sD, ln_sI, ln_sR, ln_sA, ln_sQ, ln_sL, ln_sD, gI_sR, gI_sA, gI_sQ, gI_sL, gI_sD, gR_sI, gR_sA, gR_sQ, gR_sL, gR_sD, gA_sI, gA_sR, gA_sQ, gA_sL, gA_sD, gQ_sI, gQ_sR, gQ_sA, gQ_sL, gQ_sD, gL_sI, gL_sR, gL_sA, gL_sQ, gL_sD, kd_nO, kd_nA, *]) (by first | decide | assumption) (by first | assumption | exact gI_sIs | exact gR_sRs | with_reducible rfl | (simp only [kd_sI, kd_sR, kd_sA, kd_sQ, kd_sL, kd_sD, ln_sI, ln_sR, ln_sA, ln_sQ, ln_sL, ln_sD, gI_sR, gI_sA, gI_sQ, gI_sL, gI_sD, gR_sI, gR_sA, gR_sQ, gR_sL, gR_sD, gA_sI, gA_sR, gA_sQ, gA_sL, gA_sD, gQ_sI, gQ_sR, gQ_sA, gQ_sL, gQ_sD, gL_sI, gL_sR, gL_sA, gL_sQ, gL_sD]; first | done | assumption | with_reducible rfl) | rfl) (by first | with_reducible rfl | assumption | (simp only [nI_add, pk_mul, nI_1]; with_reducible rfl)) (by first | assumption | omega) (by first | assumption | omega) (by first | assumption | exact gI_sIs | exact gR_sRs | with_reducible rfl | (simp only [kd_sI, kd_sR, kd_sA, kd_sQ, kd_sL, kd_sD, ln_sI, ln_sR, ln_sA, ln_sQ, ln_sL, ln_sD, gI_sR, gI_sA, gI_sQ, gI_sL, gI_sD, gR_sI, gR_sA, gR_sQ, gR_sL, gR_sD, gA_sI, gA_sR, gA_sQ, gA_sL, gA_sD, gQ_sI, gQ_sR, gQ_sA, gQ_sL, gQ_sD, gL_sI, gL_sR, gL_sA, gL_sQ, gL_sD]; first | done | assumption | with_reducible rfl) | rfl) ?_
    refine r_goto (tgt := 24) dX3_here_20 (by decide) ?_
    refine r_ireturn dX3_here_24 rfl (by first | rfl | assumption | exact vp_nar_int _ | exact pk_nc _) ?_
    exact hQ
theorem s_skips {B : List Nat} {p c : Nat} (hd : 1 ≤ d) (hM : MO H m ma) (hR : BufR H m ma B) (hS : gI H 90 m = nI p) (hp : p ≤ 60) (hc : c ≤ 126)
    (hQ : ∀ H', MU m ma [90] H H' → gI H' 90 m = nI (tk B c c p).2 → Qr (some (vI (bI (tk B c c p).1.isSome))) H') : AMet G d 0 0 yX3_skips wX3_skips H [vR (some m), vI (nI c)] Qr Qx := by
  have e0 := hM.1
  have hb4 := hR.2.2.2
  unfold tk at hQ
  refine AMet.of (M := mX3_skips) (maxL := 3) rfl rfl (Nat.le_of_ble_eq_true rfl) ?_
  show AW mX3_skips _ _ _ _ _ _ _ 0 [some (vR (some m)), some (vI (nI c)), none] []
  refine r_aload_n (i := 0) dX3_skips_0 rfl rfl ?_
  refine r_callV (As := []) (mc' := 0) (ms' := 0) dX3_skips_1 k_X3_224 rfl (by first | assumption | (simp only [kd_sI, kd_sR, kd_sA, kd_sQ, kd_sL, kd_sD, ln_sI, ln_sR, ln_sA, ln_sQ, ln_sL, ln_sD, gI_sR, gI_sA, gI_sQ, gI_sL, gI_sD, gR_sI, gR_sA, gR_sQ, gR_sL, gR_sD, gA_sI, gA_sR, gA_sQ, gA_sL, gA_sD, gQ_sI, gQ_sR, gQ_sA, gQ_sL, gQ_sD, gL_sI, gL_sR, gL_sA, gL_sQ, gL_sD]; assumption) | simp [kd_sI, kd_sR, kd_sA, kd_sQ, kd_sL, kd_sD, ln_sI, ln_sR, ln_sA, ln_sQ, ln_sL, ln_sD, gI_sR, gI_sA, gI_sQ, gI_sL, gI_sD, gR_sI, gR_sA, gR_sQ, gR_sL, gR_sD, gA_sI, gA_sR, gA_sQ, gA_sL, gA_sD, gQ_sI, gQ_sR, gQ_sA, gQ_sL, gQ_sD, gL_sI, gL_sR, gL_sA, gL_sQ, gL_sD, kd_nO, kd_nA, *]) (T := TX3) (N := 27) rfl (by first | assumption | omega) (by first | assumption | omega) (by first | assumption | omega) (Nat.le_of_ble_eq_true rfl) ?_
  refine s_here hM hR hS hp ?_
  refine r_iload_n (i := 1) dX3_skips_4 rfl rfl ?_
  refine r_icmp_ne (tgt := 12) dX3_skips_5 (by decide) (fun h5 => ?_) (fun h5 => ?_)
  · have hn : ¬ inR B p c c = true := fun q => h5 ((here_eq hb4 hc).mpr q)
    rw [if_neg hn] at hQ
    refine r_iconst (v := nI 0) dX3_skips_12 (by decide) ?_
    refine r_istore_n (i := 2) dX3_skips_13 rfl (Nat.le_of_ble_eq_true rfl) (by simp only [lset]; rfl) ?_
    refine r_aload_n (i := 0) dX3_skips_14 rfl rfl ?_
    refine r_dup dX3_skips_15 rfl ?_
    refine r_getI dX3_skips_16 fR_X3_221 (by first | assumption | (simp only [kd_sI, kd_sR, kd_sA, kd_sQ, kd_sL, kd_sD, ln_sI, ln_sR, ln_sA, ln_sQ, ln_sL, ln_sD, gI_sR, gI_sA, gI_sQ, gI_sL, gI_sD, gR_sI, gR_sA, gR_sQ, gR_sL, gR_sD, gA_sI, gA_sR, gA_sQ, gA_sL, gA_sD, gQ_sI, gQ_sR, gQ_sA, gQ_sL, gQ_sD, gL_sI, gL_sR, gL_sA, gL_sQ, gL_sD]; assumption) | simp [kd_sI, kd_sR, kd_sA, kd_sQ, kd_sL, kd_sD, ln_sI, ln_sR, ln_sA, ln_sQ, ln_sL, ln_sD, gI_sR, gI_sA, gI_sQ, gI_sL, gI_sD, gR_sI, gR_sA, gR_sQ, gR_sL, gR_sD, gA_sI, gA_sR, gA_sQ, gA_sL, gA_sD, gQ_sI, gQ_sR, gQ_sA, gQ_sL, gQ_sD, gL_sI, gL_sR, gL_sA, gL_sQ, gL_sD, kd_nO, kd_nA, *]) (by first | assumption | exact gI_sIs | exact gR_sRs | with_reducible rfl | (simp only [kd_sI, kd_sR, kd_sA, kd_sQ, kd_sL, kd_sD, ln_sI, ln_sR, ln_sA, ln_sQ, ln_sL, ln_sD, gI_sR, gI_sA, gI_sQ, gI_sL, gI_sD, gR_sI, gR_sA, gR_sQ, gR_sL, gR_sD, gA_sI, gA_sR, gA_sQ, gA_sL, gA_sD, gQ_sI, gQ_sR, gQ_sA, gQ_sL, gQ_sD, gL_sI, gL_sR, gL_sA, gL_sQ, gL_sD]; first | done | assumption | with_reducible rfl) | rfl) ?_
    refine r_iload_n (i := 2) dX3_skips_19 rfl rfl ?_
    refine r_if_eq (tgt := 27) dX3_skips_20 (by decide) (fun h20 => ?_) (fun h20 => ?_)
    · refine r_iconst (v := nI 0) dX3_skips_27 (by decide) ?_
      refine r_iadd dX3_skips_28 ?_
      refine r_putI dX3_skips_29 fG_X3_221 (fun _ => by first | rfl | contradiction) (by first | assumption | (simp only [kd_sI, kd_sR, kd_sA, kd_sQ, kd_sL, kd_sD, ln_sI, ln_sR, ln_sA, ln_sQ, ln_sL, ln_sD, gI_sR, gI_sA, gI_sQ, gI_sL, gI_sD, gR_sI, gR_sA, gR_sQ, gR_sL, gR_sD, gA_sI, gA_sR, gA_sQ, gA_sL, gA_sD, gQ_sI, gQ_sR, gQ_sA, gQ_sL, gQ_sD, gL_sI, gL_sR, gL_sA, gL_sQ, gL_sD]; assumption) | simp [kd_sI, kd_sR, kd_sA, kd_sQ, kd_sL, kd_sD, ln_sI, ln_sR, ln_sA, ln_sQ, ln_sL, ln_sD, gI_sR, gI_sA, gI_sQ, gI_sL, gI_sD, gR_sI, gR_sA, gR_sQ, gR_sL, gR_sD, gA_sI, gA_sR, gA_sQ, gA_sL, gA_sD, gQ_sI, gQ_sR, gQ_sA, gQ_sL, gQ_sD, gL_sI, gL_sR, gL_sA, gL_sQ, gL_sD, kd_nO, kd_nA, *]) (by first | rfl | assumption) (by first | rfl | assumption) ?_
      refine r_iload_n (i := 2) dX3_skips_32 rfl rfl ?_
      refine r_ireturn dX3_skips_33 rfl (by first | rfl | assumption | exact vp_nar_int _ | exact pk_nc _) ?_
      refine hQ _ (MU.rf.sI (by decide) (by decide) (by decide)) ?_
      rw [gI_sIs]
      exact nI_add _ 0
    · exact absurd rfl h20
  · have hn : inR B p c c = true := (here_eq hb4 hc).mp h5
    rw [if_pos hn] at hQ
    refine r_iconst (v := nI 1) dX3_skips_8 (by decide) ?_
    refine r_goto (tgt := 13) dX3_skips_9 (by decide) ?_
    refine r_istore_n (i := 2) dX3_skips_13 rfl (Nat.le_of_ble_eq_true rfl) (by simp only [lset]; rfl) ?_
    refine r_aload_n (i := 0) dX3_skips_14 rfl rfl ?_
    refine r_dup dX3_skips_15 rfl ?_
    refine r_getI dX3_skips_16 fR_X3_221 (by first | assumption | (simp only [kd_sI, kd_sR, kd_sA, kd_sQ, kd_sL, kd_sD, ln_sI, ln_sR, ln_sA, ln_sQ, ln_sL, ln_sD, gI_sR, gI_sA, gI_sQ, gI_sL, gI_sD, gR_sI, gR_sA, gR_sQ, gR_sL, gR_sD, gA_sI, gA_sR, gA_sQ, gA_sL, gA_sD, gQ_sI, gQ_sR, gQ_sA, gQ_sL, gQ_sD, gL_sI, gL_sR, gL_sA, gL_sQ, gL_sD]; assumption) | simp [kd_sI, kd_sR, kd_sA, kd_sQ, kd_sL, kd_sD, ln_sI, ln_sR, ln_sA, ln_sQ, ln_sL, ln_sD, gI_sR, gI_sA, gI_sQ, gI_sL, gI_sD, gR_sI, gR_sA, gR_sQ, gR_sL, gR_sD, gA_sI, gA_sR, gA_sQ, gA_sL, gA_sD, gQ_sI, gQ_sR, gQ_sA, gQ_sL, gQ_sD, gL_sI, gL_sR, gL_sA, gL_sQ, gL_sD, kd_nO, kd_nA, *]) (by first | assumption | exact gI_sIs | exact gR_sRs | with_reducible rfl | (simp only [kd_sI, kd_sR, kd_sA, kd_sQ, kd_sL, kd_sD, ln_sI, ln_sR, ln_sA, ln_sQ, ln_sL, ln_sD, gI_sR, gI_sA, gI_sQ, gI_sL, gI_sD, gR_sI, gR_sA, gR_sQ, gR_sL, gR_sD, gA_sI, gA_sR, gA_sQ, gA_sL, gA_sD, gQ_sI, gQ_sR, gQ_sA, gQ_sL, gQ_sD, gL_sI, gL_sR, gL_sA, gL_sQ, gL_sD]; first | done | assumption | with_reducible rfl) | rfl) ?_
    refine r_iload_n (i := 2) dX3_skips_19 rfl rfl ?_
    refine r_if_eq (tgt := 27) dX3_skips_20 (by decide) (fun h20 => ?_) (fun h20 => ?_)
    · exact absurd h20 (by decide)
    · refine r_iconst (v := nI 1) dX3_skips_23 (by decide) ?_
      refine r_goto (tgt := 28) dX3_skips_24 (by decide) ?_
      refine r_iadd dX3_skips_28 ?_
      refine r_putI dX3_skips_29 fG_X3_221 (fun _ => by first | rfl | contradiction) (by first | assumption | (simp only [kd_sI, kd_sR, kd_sA, kd_sQ, kd_sL, kd_sD, ln_sI, ln_sR, ln_sA, ln_sQ, ln_sL, ln_sD, gI_sR, gI_sA, gI_sQ, gI_sL, gI_sD, gR_sI, gR_sA, gR_sQ, gR_sL, gR_sD, gA_sI, gA_sR, gA_sQ, gA_sL, gA_sD, gQ_sI, gQ_sR, gQ_sA, gQ_sL, gQ_sD, gL_sI, gL_sR, gL_sA, gL_sQ, gL_sD]; assumption) | simp [kd_sI, kd_sR, kd_sA, kd_sQ, kd_sL, kd_sD, ln_sI, ln_sR, ln_sA, ln_sQ, ln_sL, ln_sD, gI_sR, gI_sA, gI_sQ, gI_sL, gI_sD, gR_sI, gR_sA, gR_sQ, gR_sL, gR_sD, gA_sI, gA_sR, gA_sQ, gA_sL, gA_sD, gQ_sI, gQ_sR, gQ_sA, gQ_sL, gQ_sD, gL_sI, gL_sR, gL_sA, gL_sQ, gL_sD, kd_nO, kd_nA, *]) (by first | rfl | assumption) (by first | rfl | assumption) ?_
      refine r_iload_n (i := 2) dX3_skips_32 rfl rfl ?_
      refine r_ireturn dX3_skips_33 rfl (by first | rfl | assumption | exact vp_nar_int _ | exact pk_nc _) ?_
      refine hQ _ (MU.rf.sI (by decide) (by decide) (by decide)) ?_
      rw [gI_sIs]
      exact nI_add _ 1
theorem s_digit {B : List Nat} {p a : Nat} (hd : 1 ≤ d) (hM : MO H m ma) (hR : BufR H m ma B) (hS : gI H 90 m = nI p) (hp : p ≤ 60) (ha : a < 320)
    (hQ : ∀ H', MU m ma [90, 93] H H' → gI H' 90 m = nI (tk B 48 57 p).2 → (∀ v, (tk B 48 57 p).1 = some v → gA H' 1093 (ma 93) = upd (gA H 1093 (ma 93)) a (nI v)) → Qr (some (vI (bI (tk B 48 57 p).1.isSome))) H') : AMet G d 0 0 yX3_digit wX3_digit H [vR (some m), vI (nI a)] Qr Qx := by
  have e0 := hM.1
  have hb4 := hR.2.2.2
  unfold tk at hQ
  obtain ⟨e93a, e93b, e93c⟩ : gR H 93 m = some (ma 93) ∧ kd H (ma 93) = 1093 ∧ ln H (ma 93) = 320 := hM.2 93 (by decide)
  refine AMet.of (M := mX3_digit) (maxL := 2) rfl rfl (Nat.le_of_ble_eq_true rfl) ?_
  show AW mX3_digit _ _ _ _ _ _ _ 0 [some (vR (some m)), some (vI (nI a))] []
  refine r_aload_n (i := 0) dX3_digit_0 rfl rfl ?_
  refine r_callV (As := []) (mc' := 0) (ms' := 0) dX3_digit_1 k_X3_224 rfl (by first | assumption | (simp only [kd_sI, kd_sR, kd_sA, kd_sQ, kd_sL, kd_sD, ln_sI, ln_sR, ln_sA, ln_sQ, ln_sL, ln_sD, gI_sR, gI_sA, gI_sQ, gI_sL, gI_sD, gR_sI, gR_sA, gR_sQ, gR_sL, gR_sD, gA_sI, gA_sR, gA_sQ, gA_sL, gA_sD, gQ_sI, gQ_sR, gQ_sA, gQ_sL, gQ_sD, gL_sI, gL_sR, gL_sA, gL_sQ, gL_sD]; assumption) | simp [kd_sI, kd_sR, kd_sA, kd_sQ, kd_sL, kd_sD, ln_sI, ln_sR, ln_sA, ln_sQ, ln_sL, ln_sD, gI_sR, gI_sA, gI_sQ, gI_sL, gI_sD, gR_sI, gR_sA, gR_sQ, gR_sL, gR_sD, gA_sI, gA_sR, gA_sQ, gA_sL, gA_sD, gQ_sI, gQ_sR, gQ_sA, gQ_sL, gQ_sD, gL_sI, gL_sR, gL_sA, gL_sQ, gL_sD, kd_nO, kd_nA, *]) (T := TX3) (N := 27) rfl (by first | assumption | omega) (by first | assumption | omega) (by first | assumption | omega) (Nat.le_of_ble_eq_true rfl) ?_
  refine s_here hM hR hS hp ?_
  refine r_bipush (v := nI 48) dX3_digit_4 (by decide) ?_
  refine r_bipush (v := nI 57) dX3_digit_6 (by decide) ?_
  refine r_callS (As := [_, _, _]) (mc' := 0) (ms' := 0) dX3_digit_8 k_X3_90 rfl (by first | assumption | omega) (by first | assumption | omega) (by first | assumption | omega) (Nat.le_of_ble_eq_true rfl) ?_
  refine s_in ?_
  rw [show decide (nI 48 ≤ hereV B p ∧ hereV B p ≤ nI 57) = inR B p 48 57 from here_in hb4 (by decide) (by decide)]
  refine r_if_ne (tgt := 16) dX3_digit_11 (by decide) (fun h11 => ?_) (fun h11 => ?_)
  · have h := bI_ne0 h11
    obtain ⟨k1, k2, k3, k4⟩ := here_c h
    rw [if_pos h] at hQ
    refine r_aload_n (i := 0) dX3_digit_16 rfl rfl ?_
    refine r_getR dX3_digit_17 fR_X3_60 (by first | assumption | (simp only [kd_sI, kd_sR, kd_sA, kd_sQ, kd_sL, kd_sD, ln_sI, ln_sR, ln_sA, ln_sQ, ln_sL, ln_sD, gI_sR, gI_sA, gI_sQ, gI_sL, gI_sD, gR_sI, gR_sA, gR_sQ, gR_sL, gR_sD, gA_sI, gA_sR, gA_sQ, gA_sL, gA_sD, gQ_sI, gQ_sR, gQ_sA, gQ_sL, gQ_sD, gL_sI, gL_sR, gL_sA, gL_sQ, gL_sD]; assumption) | simp [kd_sI, kd_sR, kd_sA, kd_sQ, kd_sL, kd_sD, ln_sI, ln_sR, ln_sA, ln_sQ, ln_sL, ln_sD, gI_sR, gI_sA, gI_sQ, gI_sL, gI_sD, gR_sI, gR_sA, gR_sQ, gR_sL, gR_sD, gA_sI, gA_sR, gA_sQ, gA_sL, gA_sD, gQ_sI, gQ_sR, gQ_sA, gQ_sL, gQ_sD, gL_sI, gL_sR, gL_sA, gL_sQ, gL_sD, kd_nO, kd_nA, *]) (by first | assumption | exact gI_sIs | exact gR_sRs | with_reducible rfl | (simp only [kd_sI, kd_sR, kd_sA, kd_sQ, kd_sL, kd_sD, ln_sI, ln_sR, ln_sA, ln_sQ, ln_sL, ln_sD, gI_sR, gI_sA, gI_sQ, gI_sL, gI_sD, gR_sI, gR_sA, gR_sQ, gR_sL, gR_sD, gA_sI, gA_sR, gA_sQ, gA_sL, gA_sD, gQ_sI, gQ_sR, gQ_sA, gQ_sL, gQ_sD, gL_sI, gL_sR, gL_sA, gL_sQ, gL_sD]; first | done | assumption | with_reducible rfl) | rfl) ?_
    refine r_iload_n (i := 1) dX3_digit_20 rfl rfl ?_
    refine r_aload_n (i := 0) dX3_digit_21 rfl rfl ?_
    refine r_callV (As := []) (mc' := 0) (ms' := 0) dX3_digit_22 k_X3_224 rfl (by first | assumption | (simp only [kd_sI, kd_sR, kd_sA, kd_sQ, kd_sL, kd_sD, ln_sI, ln_sR, ln_sA, ln_sQ, ln_sL, ln_sD, gI_sR, gI_sA, gI_sQ, gI_sL, gI_sD, gR_sI, gR_sA, gR_sQ, gR_sL, gR_sD, gA_sI, gA_sR, gA_sQ, gA_sL, gA_sD, gQ_sI, gQ_sR, gQ_sA, gQ_sL, gQ_sD, gL_sI, gL_sR, gL_sA, gL_sQ, gL_sD]; assumption) | simp [kd_sI, kd_sR, kd_sA, kd_sQ, kd_sL, kd_sD, ln_sI, ln_sR, ln_sA, ln_sQ, ln_sL, ln_sD, gI_sR, gI_sA, gI_sQ, gI_sL, gI_sD, gR_sI, gR_sA, gR_sQ, gR_sL, gR_sD, gA_sI, gA_sR, gA_sQ, gA_sL, gA_sD, gQ_sI, gQ_sR, gQ_sA, gQ_sL, gQ_sD, gL_sI, gL_sR, gL_sA, gL_sQ, gL_sD, kd_nO, kd_nA, *]) (T := TX3) (N := 27) rfl (by first | assumption | omega) (by first | assumption | omega) (by first | assumption | omega) (Nat.le_of_ble_eq_true rfl) ?_
    refine s_here hM hR hS hp ?_
    rw [k4]
    refine r_bipush (v := nI 48) dX3_digit_25 (by decide) ?_
    refine r_isub dX3_digit_27 ?_
    rw [pk_sub k2]
    refine r_iast dX3_digit_28 (by first | assumption | (simp only [kd_sI, kd_sR, kd_sA, kd_sQ, kd_sL, kd_sD, ln_sI, ln_sR, ln_sA, ln_sQ, ln_sL, ln_sD, gI_sR, gI_sA, gI_sQ, gI_sL, gI_sD, gR_sI, gR_sA, gR_sQ, gR_sL, gR_sD, gA_sI, gA_sR, gA_sQ, gA_sL, gA_sD, gQ_sI, gQ_sR, gQ_sA, gQ_sL, gQ_sD, gL_sI, gL_sR, gL_sA, gL_sQ, gL_sD]; assumption) | simp [kd_sI, kd_sR, kd_sA, kd_sQ, kd_sL, kd_sD, ln_sI, ln_sR, ln_sA, ln_sQ, ln_sL, ln_sD, gI_sR, gI_sA, gI_sQ, gI_sL, gI_sD, gR_sI, gR_sA, gR_sQ, gR_sL, gR_sD, gA_sI, gA_sR, gA_sQ, gA_sL, gA_sD, gQ_sI, gQ_sR, gQ_sA, gQ_sL, gQ_sD, gL_sI, gL_sR, gL_sA, gL_sQ, gL_sD, kd_nO, kd_nA, *]) (by first | decide | assumption) (by first | assumption | exact gI_sIs | exact gR_sRs | with_reducible rfl | (simp only [kd_sI, kd_sR, kd_sA, kd_sQ, kd_sL, kd_sD, ln_sI, ln_sR, ln_sA, ln_sQ, ln_sL, ln_sD, gI_sR, gI_sA, gI_sQ, gI_sL, gI_sD, gR_sI, gR_sA, gR_sQ, gR_sL, gR_sD, gA_sI, gA_sR, gA_sQ, gA_sL, gA_sD, gQ_sI, gQ_sR, gQ_sA, gQ_sL, gQ_sD, gL_sI, gL_sR, gL_sA, gL_sQ, gL_sD]; first | done | assumption | with_reducible rfl) | rfl) (by first | with_reducible rfl | assumption | (simp only [nI_add, pk_mul, nI_1]; with_reducible rfl)) (by first | assumption | omega) (by first | assumption | omega) ?_
    refine r_aload_n (i := 0) dX3_digit_29 rfl rfl ?_
    refine r_dup dX3_digit_30 rfl ?_
    refine r_getI dX3_digit_31 fR_X3_221 (by first | assumption | (simp only [kd_sI, kd_sR, kd_sA, kd_sQ, kd_sL, kd_sD, ln_sI, ln_sR, ln_sA, ln_sQ, ln_sL, ln_sD, gI_sR, gI_sA, gI_sQ, gI_sL, gI_sD, gR_sI, gR_sA, gR_sQ, gR_sL, gR_sD, gA_sI, gA_sR, gA_sQ, gA_sL, gA_sD, gQ_sI, gQ_sR, gQ_sA, gQ_sL, gQ_sD, gL_sI, gL_sR, gL_sA, gL_sQ, gL_sD]; assumption) | simp [kd_sI, kd_sR, kd_sA, kd_sQ, kd_sL, kd_sD, ln_sI, ln_sR, ln_sA, ln_sQ, ln_sL, ln_sD, gI_sR, gI_sA, gI_sQ, gI_sL, gI_sD, gR_sI, gR_sA, gR_sQ, gR_sL, gR_sD, gA_sI, gA_sR, gA_sQ, gA_sL, gA_sD, gQ_sI, gQ_sR, gQ_sA, gQ_sL, gQ_sD, gL_sI, gL_sR, gL_sA, gL_sQ, gL_sD, kd_nO, kd_nA, *]) (by first | assumption | exact gI_sIs | exact gR_sRs | with_reducible rfl | (simp only [kd_sI, kd_sR, kd_sA, kd_sQ, kd_sL, kd_sD, ln_sI, ln_sR, ln_sA, ln_sQ, ln_sL, ln_sD, gI_sR, gI_sA, gI_sQ, gI_sL, gI_sD, gR_sI, gR_sA, gR_sQ, gR_sL, gR_sD, gA_sI, gA_sR, gA_sQ, gA_sL, gA_sD, gQ_sI, gQ_sR, gQ_sA, gQ_sL, gQ_sD, gL_sI, gL_sR, gL_sA, gL_sQ, gL_sD]; first | done | assumption | with_reducible rfl) | rfl) ?_
    refine r_iconst (v := nI 1) dX3_digit_34 (by decide) ?_
    refine r_iadd dX3_digit_35 ?_
    refine r_putI dX3_digit_36 fG_X3_221 (fun _ => by first | rfl | contradiction) (by first | assumption | (simp only [kd_sI, kd_sR, kd_sA, kd_sQ, kd_sL, kd_sD, ln_sI, ln_sR, ln_sA, ln_sQ, ln_sL, ln_sD, gI_sR, gI_sA, gI_sQ, gI_sL, gI_sD, gR_sI, gR_sA, gR_sQ, gR_sL, gR_sD, gA_sI, gA_sR, gA_sQ, gA_sL, gA_sD, gQ_sI, gQ_sR, gQ_sA, gQ_sL, gQ_sD, gL_sI, gL_sR, gL_sA, gL_sQ, gL_sD]; assumption) | simp [kd_sI, kd_sR, kd_sA, kd_sQ, kd_sL, kd_sD, ln_sI, ln_sR, ln_sA, ln_sQ, ln_sL, ln_sD, gI_sR, gI_sA, gI_sQ, gI_sL, gI_sD, gR_sI, gR_sA, gR_sQ, gR_sL, gR_sD, gA_sI, gA_sR, gA_sQ, gA_sL, gA_sD, gQ_sI, gQ_sR, gQ_sA, gQ_sL, gQ_sD, gL_sI, gL_sR, gL_sA, gL_sQ, gL_sD, kd_nO, kd_nA, *]) (by first | rfl | assumption) (by first | rfl | assumption) ?_
    refine r_iconst (v := nI 1) dX3_digit_39 (by decide) ?_
    refine r_ireturn dX3_digit_40 rfl (by first | rfl | assumption | exact vp_nar_int _ | exact pk_nc _) ?_
    refine hQ _ ((MU.rf.sA (f := 93) (Or.inl (by decide)) (by decide) (by decide)).sI (f := 90) (by decide) (by decide) (by decide)) ?_ ?_
    · rw [gI_sIs]
      exact nI_add _ 1
    · intro v hv
      cases hv
      show gA (sA H 1093 (ma 93) _) 1093 (ma 93) = _
      rw [gA_sAs]
  · have h := bI_eq0.mp h11
    rw [if_neg (by rw [h]; decide)] at hQ
    refine r_iconst (v := nI 0) dX3_digit_14 (by decide) ?_
    refine r_ireturn dX3_digit_15 rfl (by first | rfl | assumption | exact vp_nar_int _ | exact pk_nc _) ?_
    exact hQ H MU.rf hS (fun v hv => by cases hv)
theorem s_number {B : List Nat} {p a : Nat} (hd : 2 ≤ d) (hM : MO H m ma) (hR : BufR H m ma B) (hS : gI H 90 m = nI p) (hp : p ≤ 60) (ha : a < 320)
    (hQ : ∀ H', MU m ma [90, 93] H H' → gI H' 90 m = nI (pNum B p).2 → (∀ v, (pNum B p).1 = some v → gA H' 1093 (ma 93) = upd (gA H 1093 (ma 93)) a (nI v)) → Qr (some (vI (bI (pNum B p).1.isSome))) H') : AMet G d 0 0 yX3_number wX3_number H [vR (some m), vI (nI a)] Qr Qx := by
  have e0 := hM.1
  have hb2 := hR.2.1
  have hb4 := hR.2.2.2
  refine AMet.of (M := mX3_number) (maxL := 3) rfl rfl (Nat.le_of_ble_eq_true rfl) ?_
  show AW mX3_number _ _ _ _ _ _ _ 0 [some (vR (some m)), some (vI (nI a)), none] []
  refine r_aload_n (i := 0) dX3_number_0 rfl rfl ?_
  refine r_iload_n (i := 1) dX3_number_1 rfl rfl ?_
  refine r_callV (As := [_]) (mc' := 0) (ms' := 0) dX3_number_2 k_X3_227 rfl (by first | assumption | (simp only [kd_sI, kd_sR, kd_sA, kd_sQ, kd_sL, kd_sD, ln_sI, ln_sR, ln_sA, ln_sQ, ln_sL, ln_sD, gI_sR, gI_sA, gI_sQ, gI_sL, gI_sD, gR_sI, gR_sA, gR_sQ, gR_sL, gR_sD, gA_sI, gA_sR, gA_sQ, gA_sL, gA_sD, gQ_sI, gQ_sR, gQ_sA, gQ_sL, gQ_sD, gL_sI, gL_sR, gL_sA, gL_sQ, gL_sD]; assumption) | simp [kd_sI, kd_sR, kd_sA, kd_sQ, kd_sL, kd_sD, ln_sI, ln_sR, ln_sA, ln_sQ, ln_sL, ln_sD, gI_sR, gI_sA, gI_sQ, gI_sL, gI_sD, gR_sI, gR_sA, gR_sQ, gR_sL, gR_sD, gA_sI, gA_sR, gA_sQ, gA_sL, gA_sD, gQ_sI, gQ_sR, gQ_sA, gQ_sL, gQ_sD, gL_sI, gL_sR, gL_sA, gL_sQ, gL_sD, kd_nO, kd_nA, *]) (T := TX3) (N := 27) rfl (by first | assumption | omega) (by first | assumption | omega) (by first | assumption | omega) (Nat.le_of_ble_eq_true rfl) ?_
  refine s_digit (by omega) hM hR hS hp ha ?_
  intro H1 hU1 hS1 hT1
  have hM1 := hM.mf hU1.1
  have e01 := hM1.1
  show AW mX3_number G d Qr Qx _ _ H1 5 _ _
  unfold pNum at hQ
  unfold tk at hS1 hT1
  rw [show tk B 48 57 p = if inR B p 48 57 then (some (B.getD p 0 - 48), p + 1) else (none, p) from rfl]
  cases h : inR B p 48 57 with
  | false =>
    rw [h] at hQ hS1
    refine r_if_ne (tgt := 10) dX3_number_5 (by decide) (fun h5 => ?_) (fun h5 => ?_)
    · exact absurd rfl h5
    · refine r_iconst (v := nI 0) dX3_number_8 (by decide) ?_
      refine r_ireturn dX3_number_9 rfl (by first | rfl | assumption | exact vp_nar_int _ | exact pk_nc _) ?_
      exact hQ H1 hU1 hS1 (fun v hv => by cases hv)
  | true =>
    obtain ⟨k1, k2, k3, -⟩ := here_c h
    rw [h] at hQ hS1 hT1
    simp only [if_true] at hQ hS1 hT1 ⊢
    have hT := hT1 _ rfl
    obtain ⟨NL, hNL⟩ := ex_val (numLp B 2 (B.getD p 0 - 48) (p + 1))
    rw [← hNL] at hQ
    refine r_if_ne (tgt := 10) dX3_number_5 (by decide) (fun h5 => ?_) (fun h5 => ?_)
    · refine r_iconst (v := nI 1) dX3_number_10 (by decide) ?_
      refine r_istore_n (i := 2) dX3_number_11 rfl (Nat.le_of_ble_eq_true rfl) (by simp only [lset]; rfl) ?_
      have loop : ∀ (k j n q : Nat) (H2 : AH), j + k = 3 → n * 10 ^ k < 1000 → q ≤ 60 → MU m ma [90, 93] H H2 → gI H2 90 m = nI q → gA H2 1093 (ma 93) = upd (gA H 1093 (ma 93)) a (nI n) → NL = numLp B k n q → AW mX3_number G d Qr Qx 0 0 H2 12 [some (vR (some m)), some (vI (nI a)), some (vI (nI j))] [] := by
        intro k
        induction k with
        | zero =>
          intro j n q H2 hj hn hq hU2 hS2 hT2 hN
          have hM2 := hM.mf hU2.1
          have e02 := hM2.1
          rw [hN] at hQ
          unfold numLp at hQ
          refine r_iload_n (i := 2) dX3_number_12 rfl rfl ?_
          refine r_iconst (v := nI 3) dX3_number_13 (by decide) ?_
          refine r_icmp_ge (tgt := 79) dX3_number_14 (by decide) (fun h14 => ?_) (fun h14 => ?_)
          · refine r_iconst (v := nI 1) dX3_number_79 (by decide) ?_
            refine r_ireturn dX3_number_80 rfl (by first | rfl | assumption | exact vp_nar_int _ | exact pk_nc _) ?_
            exact hQ H2 hU2 hS2 (fun v hv => by cases hv; exact hT2)
          · exact absurd (nI_le (by omega) (by omega)) h14
        | succ k ih =>
          intro j n q H2 hj hn hq hU2 hS2 hT2 hN
          have hM2 := hM.mf hU2.1
          have e02 := hM2.1
          obtain ⟨e93a_2, e93b_2, e93c_2⟩ : gR H2 93 m = some (ma 93) ∧ kd H2 (ma 93) = 1093 ∧ ln H2 (ma 93) = 320 := hM2.2 93 (by decide)
          have hR2 := hR.mu hU2 (by decide) (by decide)
          have hta : gA H2 1093 (ma 93) a = nI n := by rw [hT2, upd_s]
          have hn0 : n < 1000 := by
            have : n * 1 ≤ n * 10 ^ (k + 1) := Nat.mul_le_mul_left _ (Nat.pow_pos (by decide))
            omega
          unfold numLp at hN
          have stop : ¬ (0 < n ∧ inR B q 48 57 = true) → AW mX3_number G d Qr Qx 0 0 H2 79 [some (vR (some m)), some (vI (nI a)), some (vI (nI j))] [] := by
            intro hc
            rw [if_neg hc] at hN
            rw [hN] at hQ
            refine r_iconst (v := nI 1) dX3_number_79 (by decide) ?_
            refine r_ireturn dX3_number_80 rfl (by first | rfl | assumption | exact vp_nar_int _ | exact pk_nc _) ?_
            exact hQ H2 hU2 hS2 (fun v hv => by cases hv; exact hT2)
          refine r_iload_n (i := 2) dX3_number_12 rfl rfl ?_
          refine r_iconst (v := nI 3) dX3_number_13 (by decide) ?_
          refine r_icmp_ge (tgt := 79) dX3_number_14 (by decide) (fun h14 => ?_) (fun h14 => ?_)
          · exact absurd h14 (nI_ge (by omega) (by omega))
          · refine r_aload_n (i := 0) dX3_number_17 rfl rfl ?_
            refine r_getR dX3_number_18 fR_X3_60 (by first | assumption | (simp only [kd_sI, kd_sR, kd_sA, kd_sQ, kd_sL, kd_sD, ln_sI, ln_sR, ln_sA, ln_sQ, ln_sL, ln_sD, gI_sR, gI_sA, gI_sQ, gI_sL, gI_sD, gR_sI, gR_sA, gR_sQ, gR_sL, gR_sD, gA_sI, gA_sR, gA_sQ, gA_sL, gA_sD, gQ_sI, gQ_sR, gQ_sA, gQ_sL, gQ_sD, gL_sI, gL_sR, gL_sA, gL_sQ, gL_sD]; assumption) | simp [kd_sI, kd_sR, kd_sA, kd_sQ, kd_sL, kd_sD, ln_sI, ln_sR, ln_sA, ln_sQ, ln_sL, ln_sD, gI_sR, gI_sA, gI_sQ, gI_sL, gI_sD, gR_sI, gR_sA, gR_sQ, gR_sL, gR_sD, gA_sI, gA_sR, gA_sQ, gA_sL, gA_sD, gQ_sI, gQ_sR, gQ_sA, gQ_sL, gQ_sD, gL_sI, gL_sR, gL_sA, gL_sQ, gL_sD, kd_nO, kd_nA, *]) (by first | assumption | exact gI_sIs | exact gR_sRs | with_reducible rfl | (simp only [kd_sI, kd_sR, kd_sA, kd_sQ, kd_sL, kd_sD, ln_sI, ln_sR, ln_sA, ln_sQ, ln_sL, ln_sD, gI_sR, gI_sA, gI_sQ, gI_sL, gI_sD, gR_sI, gR_sA, gR_sQ, gR_sL, gR_sD, gA_sI, gA_sR, gA_sQ, gA_sL, gA_sD, gQ_sI, gQ_sR, gQ_sA, gQ_sL, gQ_sD, gL_sI, gL_sR, gL_sA, gL_sQ, gL_sD]; first | done | assumption | with_reducible rfl) | rfl) ?_
            refine r_iload_n (i := 1) dX3_number_21 rfl rfl ?_
            refine r_iald dX3_number_22 (by first | assumption | (simp only [kd_sI, kd_sR, kd_sA, kd_sQ, kd_sL, kd_sD, ln_sI, ln_sR, ln_sA, ln_sQ, ln_sL, ln_sD, gI_sR, gI_sA, gI_sQ, gI_sL, gI_sD, gR_sI, gR_sA, gR_sQ, gR_sL, gR_sD, gA_sI, gA_sR, gA_sQ, gA_sL, gA_sD, gQ_sI, gQ_sR, gQ_sA, gQ_sL, gQ_sD, gL_sI, gL_sR, gL_sA, gL_sQ, gL_sD]; assumption) | simp [kd_sI, kd_sR, kd_sA, kd_sQ, kd_sL, kd_sD, ln_sI, ln_sR, ln_sA, ln_sQ, ln_sL, ln_sD, gI_sR, gI_sA, gI_sQ, gI_sL, gI_sD, gR_sI, gR_sA, gR_sQ, gR_sL, gR_sD, gA_sI, gA_sR, gA_sQ, gA_sL, gA_sD, gQ_sI, gQ_sR, gQ_sA, gQ_sL, gQ_sD, gL_sI, gL_sR, gL_sA, gL_sQ, gL_sD, kd_nO, kd_nA, *]) (by first | decide | assumption) (by first | assumption | exact gI_sIs | exact gR_sRs | with_reducible rfl | (simp only [kd_sI, kd_sR, kd_sA, kd_sQ, kd_sL, kd_sD, ln_sI, ln_sR, ln_sA, ln_sQ, ln_sL, ln_sD, gI_sR, gI_sA, gI_sQ, gI_sL, gI_sD, gR_sI, gR_sA, gR_sQ, gR_sL, gR_sD, gA_sI, gA_sR, gA_sQ, gA_sL, gA_sD, gQ_sI, gQ_sR, gQ_sA, gQ_sL, gQ_sD, gL_sI, gL_sR, gL_sA, gL_sQ, gL_sD]; first | done | assumption | with_reducible rfl) | rfl) (by first | with_reducible rfl | assumption | (simp only [nI_add, pk_mul, nI_1]; with_reducible rfl)) (by first | assumption | omega) (by first | assumption | omega) (by first | assumption | exact gI_sIs | exact gR_sRs | with_reducible rfl | (simp only [kd_sI, kd_sR, kd_sA, kd_sQ, kd_sL, kd_sD, ln_sI, ln_sR, ln_sA, ln_sQ, ln_sL, ln_sD, gI_sR, gI_sA, gI_sQ, gI_sL, gI_sD, gR_sI, gR_sA, gR_sQ, gR_sL, gR_sD, gA_sI, gA_sR, gA_sQ, gA_sL, gA_sD, gQ_sI, gQ_sR, gQ_sA, gQ_sL, gQ_sD, gL_sI, gL_sR, gL_sA, gL_sQ, gL_sD]; first | done | assumption | with_reducible rfl) | rfl) ?_
            refine r_if_le (tgt := 79) dX3_number_23 (by decide) (fun h23 => ?_) (fun h23 => ?_)
            · refine stop (fun c => ?_)
              exact absurd h23 (by rw [← nI_0]; exact nI_ge c.1 (by omega))
            · have hnp : 0 < n := Nat.pos_of_ne_zero (fun e => h23 (by rw [e]; decide))
              refine r_aload_n (i := 0) dX3_number_26 rfl rfl ?_
              refine r_callV (As := []) (mc' := 0) (ms' := 0) dX3_number_27 k_X3_224 rfl (by first | assumption | (simp only [kd_sI, kd_sR, kd_sA, kd_sQ, kd_sL, kd_sD, ln_sI, ln_sR, ln_sA, ln_sQ, ln_sL, ln_sD, gI_sR, gI_sA, gI_sQ, gI_sL, gI_sD, gR_sI, gR_sA, gR_sQ, gR_sL, gR_sD, gA_sI, gA_sR, gA_sQ, gA_sL, gA_sD, gQ_sI, gQ_sR, gQ_sA, gQ_sL, gQ_sD, gL_sI, gL_sR, gL_sA, gL_sQ, gL_sD]; assumption) | simp [kd_sI, kd_sR, kd_sA, kd_sQ, kd_sL, kd_sD, ln_sI, ln_sR, ln_sA, ln_sQ, ln_sL, ln_sD, gI_sR, gI_sA, gI_sQ, gI_sL, gI_sD, gR_sI, gR_sA, gR_sQ, gR_sL, gR_sD, gA_sI, gA_sR, gA_sQ, gA_sL, gA_sD, gQ_sI, gQ_sR, gQ_sA, gQ_sL, gQ_sD, gL_sI, gL_sR, gL_sA, gL_sQ, gL_sD, kd_nO, kd_nA, *]) (T := TX3) (N := 27) rfl (by first | assumption | omega) (by first | assumption | omega) (by first | assumption | omega) (Nat.le_of_ble_eq_true rfl) ?_
              refine s_here hM2 hR2 hS2 hq ?_
              refine r_bipush (v := nI 48) dX3_number_30 (by decide) ?_
              refine r_bipush (v := nI 57) dX3_number_32 (by decide) ?_
              refine r_callS (As := [_, _, _]) (mc' := 0) (ms' := 0) dX3_number_34 k_X3_90 rfl (by first | assumption | omega) (by first | assumption | omega) (by first | assumption | omega) (Nat.le_of_ble_eq_true rfl) ?_
              refine s_in ?_
              rw [show decide (nI 48 ≤ hereV B q ∧ hereV B q ≤ nI 57) = inR B q 48 57 from here_in hb4 (by decide) (by decide)]
              refine r_if_eq (tgt := 79) dX3_number_37 (by decide) (fun h37 => ?_) (fun h37 => ?_)
              · refine stop (fun c => ?_)
                rw [c.2] at h37
                exact absurd h37 (by decide)
              · have hd2 := bI_ne0 h37
                obtain ⟨l1, l2, l3, l4⟩ := here_c hd2
                rw [if_pos ⟨hnp, hd2⟩] at hN
                refine r_aload_n (i := 0) dX3_number_40 rfl rfl ?_
                refine r_getR dX3_number_41 fR_X3_60 (by first | assumption | (simp only [kd_sI, kd_sR, kd_sA, kd_sQ, kd_sL, kd_sD, ln_sI, ln_sR, ln_sA, ln_sQ, ln_sL, ln_sD, gI_sR, gI_sA, gI_sQ, gI_sL, gI_sD, gR_sI, gR_sA, gR_sQ, gR_sL, gR_sD, gA_sI, gA_sR, gA_sQ, gA_sL, gA_sD, gQ_sI, gQ_sR, gQ_sA, gQ_sL, gQ_sD, gL_sI, gL_sR, gL_sA, gL_sQ, gL_sD]; assumption) | simp [kd_sI, kd_sR, kd_sA, kd_sQ, kd_sL, kd_sD, ln_sI, ln_sR, ln_sA, ln_sQ, ln_sL, ln_sD, gI_sR, gI_sA, gI_sQ, gI_sL, gI_sD, gR_sI, gR_sA, gR_sQ, gR_sL, gR_sD, gA_sI, gA_sR, gA_sQ, gA_sL, gA_sD, gQ_sI, gQ_sR, gQ_sA, gQ_sL, gQ_sD, gL_sI, gL_sR, gL_sA, gL_sQ, gL_sD, kd_nO, kd_nA, *]) (by first | assumption | exact gI_sIs | exact gR_sRs | with_reducible rfl | (simp only [kd_sI, kd_sR, kd_sA, kd_sQ, kd_sL, kd_sD, ln_sI, ln_sR, ln_sA, ln_sQ, ln_sL, ln_sD, gI_sR, gI_sA, gI_sQ, gI_sL, gI_sD, gR_sI, gR_sA, gR_sQ, gR_sL, gR_sD, gA_sI, gA_sR, gA_sQ, gA_sL, gA_sD, gQ_sI, gQ_sR, gQ_sA, gQ_sL, gQ_sD, gL_sI, gL_sR, gL_sA, gL_sQ, gL_sD]; first | done | assumption | with_reducible rfl) | rfl) ?_
                refine r_iload_n (i := 1) dX3_number_44 rfl rfl ?_
                refine r_bipush (v := nI 10) dX3_number_45 (by decide) ?_
                refine r_aload_n (i := 0) dX3_number_47 rfl rfl ?_
                refine r_getR dX3_number_48 fR_X3_60 (by first | assumption | (simp only [kd_sI, kd_sR, kd_sA, kd_sQ, kd_sL, kd_sD, ln_sI, ln_sR, ln_sA, ln_sQ, ln_sL, ln_sD, gI_sR, gI_sA, gI_sQ, gI_sL, gI_sD, gR_sI, gR_sA, gR_sQ, gR_sL, gR_sD, gA_sI, gA_sR, gA_sQ, gA_sL, gA_sD, gQ_sI, gQ_sR, gQ_sA, gQ_sL, gQ_sD, gL_sI, gL_sR, gL_sA, gL_sQ, gL_sD]; assumption) | simp [kd_sI, kd_sR, kd_sA, kd_sQ, kd_sL, kd_sD, ln_sI, ln_sR, ln_sA, ln_sQ, ln_sL, ln_sD, gI_sR, gI_sA, gI_sQ, gI_sL, gI_sD, gR_sI, gR_sA, gR_sQ, gR_sL, gR_sD, gA_sI, gA_sR, gA_sQ, gA_sL, gA_sD, gQ_sI, gQ_sR, gQ_sA, gQ_sL, gQ_sD, gL_sI, gL_sR, gL_sA, gL_sQ, gL_sD, kd_nO, kd_nA, *]) (by first | assumption | exact gI_sIs | exact gR_sRs | with_reducible rfl | (simp only [kd_sI, kd_sR, kd_sA, kd_sQ, kd_sL, kd_sD, ln_sI, ln_sR, ln_sA, ln_sQ, ln_sL, ln_sD, gI_sR, gI_sA, gI_sQ, gI_sL, gI_sD, gR_sI, gR_sA, gR_sQ, gR_sL, gR_sD, gA_sI, gA_sR, gA_sQ, gA_sL, gA_sD, gQ_sI, gQ_sR, gQ_sA, gQ_sL, gQ_sD, gL_sI, gL_sR, gL_sA, gL_sQ, gL_sD]; first | done | assumption | with_reducible rfl) | rfl) ?_
                refine r_iload_n (i := 1) dX3_number_51 rfl rfl ?_
                refine r_iald dX3_number_52 (by first | assumption | (simp only [kd_sI, kd_sR, kd_sA, kd_sQ, kd_sL, kd_sD, ln_sI, ln_sR, ln_sA, ln_sQ, ln_sL, ln_sD, gI_sR, gI_sA, gI_sQ, gI_sL, gI_sD, gR_sI, gR_sA, gR_sQ, gR_sL, gR_sD, gA_sI, gA_sR, gA_sQ, gA_sL, gA_sD, gQ_sI, gQ_sR, gQ_sA, gQ_sL, gQ_sD, gL_sI, gL_sR, gL_sA, gL_sQ, gL_sD]; assumption) | simp [kd_sI, kd_sR, kd_sA, kd_sQ, kd_sL, kd_sD, ln_sI, ln_sR, ln_sA, ln_sQ, ln_sL, ln_sD, gI_sR, gI_sA, gI_sQ, gI_sL, gI_sD, gR_sI, gR_sA, gR_sQ, gR_sL, gR_sD, gA_sI, gA_sR, gA_sQ, gA_sL, gA_sD, gQ_sI, gQ_sR, gQ_sA, gQ_sL, gQ_sD, gL_sI, gL_sR, gL_sA, gL_sQ, gL_sD, kd_nO, kd_nA, *]) (by first | decide | assumption) (by first | assumption | exact gI_sIs | exact gR_sRs | with_reducible rfl | (simp only [kd_sI, kd_sR, kd_sA, kd_sQ, kd_sL, kd_sD, ln_sI, ln_sR, ln_sA, ln_sQ, ln_sL, ln_sD, gI_sR, gI_sA, gI_sQ, gI_sL, gI_sD, gR_sI, gR_sA, gR_sQ, gR_sL, gR_sD, gA_sI, gA_sR, gA_sQ, gA_sL, gA_sD, gQ_sI, gQ_sR, gQ_sA, gQ_sL, gQ_sD, gL_sI, gL_sR, gL_sA, gL_sQ, gL_sD]; first | done | assumption | with_reducible rfl) | rfl) (by first | with_reducible rfl | assumption | (simp only [nI_add, pk_mul, nI_1]; with_reducible rfl)) (by first | assumption | omega) (by first | assumption | omega) (by first | assumption | exact gI_sIs | exact gR_sRs | with_reducible rfl | (simp only [kd_sI, kd_sR, kd_sA, kd_sQ, kd_sL, kd_sD, ln_sI, ln_sR, ln_sA, ln_sQ, ln_sL, ln_sD, gI_sR, gI_sA, gI_sQ, gI_sL, gI_sD, gR_sI, gR_sA, gR_sQ, gR_sL, gR_sD, gA_sI, gA_sR, gA_sQ, gA_sL, gA_sD, gQ_sI, gQ_sR, gQ_sA, gQ_sL, gQ_sD, gL_sI, gL_sR, gL_sA, gL_sQ, gL_sD]; first | done | assumption | with_reducible rfl) | rfl) ?_
                refine r_imul dX3_number_53 ?_
                refine r_aload_n (i := 0) dX3_number_54 rfl rfl ?_
                try simp only [nI_add, pk_mul, nI_1]
                refine r_callV (As := []) (mc' := 0) (ms' := 0) dX3_number_55 k_X3_224 rfl (by first | assumption | (simp only [kd_sI, kd_sR, kd_sA, kd_sQ, kd_sL, kd_sD, ln_sI, ln_sR, ln_sA, ln_sQ, ln_sL, ln_sD, gI_sR, gI_sA, gI_sQ, gI_sL, gI_sD, gR_sI, gR_sA, gR_sQ, gR_sL, gR_sD, gA_sI, gA_sR, gA_sQ, gA_sL, gA_sD, gQ_sI, gQ_sR, gQ_sA, gQ_sL, gQ_sD, gL_sI, gL_sR, gL_sA, gL_sQ, gL_sD]; assumption) | simp [kd_sI, kd_sR, kd_sA, kd_sQ, kd_sL, kd_sD, ln_sI, ln_sR, ln_sA, ln_sQ, ln_sL, ln_sD, gI_sR, gI_sA, gI_sQ, gI_sL, gI_sD, gR_sI, gR_sA, gR_sQ, gR_sL, gR_sD, gA_sI, gA_sR, gA_sQ, gA_sL, gA_sD, gQ_sI, gQ_sR, gQ_sA, gQ_sL, gQ_sD, gL_sI, gL_sR, gL_sA, gL_sQ, gL_sD, kd_nO, kd_nA, *]) (T := TX3) (N := 27) rfl (by first | assumption | omega) (by first | assumption | omega) (by first | assumption | omega) (Nat.le_of_ble_eq_true rfl) ?_
                refine s_here hM2 hR2 hS2 hq ?_
                rw [l4]
                refine r_iadd dX3_number_58 ?_
                refine r_bipush (v := nI 48) dX3_number_59 (by decide) ?_
                rw [nI_add]
                refine r_isub dX3_number_61 ?_
                rw [pk_sub (by omega)]
                refine r_iast dX3_number_62 (by first | assumption | (simp only [kd_sI, kd_sR, kd_sA, kd_sQ, kd_sL, kd_sD, ln_sI, ln_sR, ln_sA, ln_sQ, ln_sL, ln_sD, gI_sR, gI_sA, gI_sQ, gI_sL, gI_sD, gR_sI, gR_sA, gR_sQ, gR_sL, gR_sD, gA_sI, gA_sR, gA_sQ, gA_sL, gA_sD, gQ_sI, gQ_sR, gQ_sA, gQ_sL, gQ_sD, gL_sI, gL_sR, gL_sA, gL_sQ, gL_sD]; assumption) | simp [kd_sI, kd_sR, kd_sA, kd_sQ, kd_sL, kd_sD, ln_sI, ln_sR, ln_sA, ln_sQ, ln_sL, ln_sD, gI_sR, gI_sA, gI_sQ, gI_sL, gI_sD, gR_sI, gR_sA, gR_sQ, gR_sL, gR_sD, gA_sI, gA_sR, gA_sQ, gA_sL, gA_sD, gQ_sI, gQ_sR, gQ_sA, gQ_sL, gQ_sD, gL_sI, gL_sR, gL_sA, gL_sQ, gL_sD, kd_nO, kd_nA, *]) (by first | decide | assumption) (by first | assumption | exact gI_sIs | exact gR_sRs | with_reducible rfl | (simp only [kd_sI, kd_sR, kd_sA, kd_sQ, kd_sL, kd_sD, ln_sI, ln_sR, ln_sA, ln_sQ, ln_sL, ln_sD, gI_sR, gI_sA, gI_sQ, gI_sL, gI_sD, gR_sI, gR_sA, gR_sQ, gR_sL, gR_sD, gA_sI, gA_sR, gA_sQ, gA_sL, gA_sD, gQ_sI, gQ_sR, gQ_sA, gQ_sL, gQ_sD, gL_sI, gL_sR, gL_sA, gL_sQ, gL_sD]; first | done | assumption | with_reducible rfl) | rfl) (by first | with_reducible rfl | assumption | (simp only [nI_add, pk_mul, nI_1]; with_reducible rfl)) (by first | assumption | omega) (by first | assumption | omega) ?_
                refine r_aload_n (i := 0) dX3_number_63 rfl rfl ?_
                refine r_dup dX3_number_64 rfl ?_
                refine r_getI dX3_number_65 fR_X3_221 (by first | assumption | (simp only [kd_sI, kd_sR, kd_sA, kd_sQ, kd_sL, kd_sD, ln_sI, ln_sR, ln_sA, ln_sQ, ln_sL, ln_sD, gI_sR, gI_sA, gI_sQ, gI_sL, gI_sD, gR_sI, gR_sA, gR_sQ, gR_sL, gR_sD, gA_sI, gA_sR, gA_sQ, gA_sL, gA_sD, gQ_sI, gQ_sR, gQ_sA, gQ_sL, gQ_sD, gL_sI, gL_sR, gL_sA, gL_sQ, gL_sD]; assumption) | simp [kd_sI, kd_sR, kd_sA, kd_sQ, kd_sL, kd_sD, ln_sI, ln_sR, ln_sA, ln_sQ, ln_sL, ln_sD, gI_sR, gI_sA, gI_sQ, gI_sL, gI_sD, gR_sI, gR_sA, gR_sQ, gR_sL, gR_sD, gA_sI, gA_sR, gA_sQ, gA_sL, gA_sD, gQ_sI, gQ_sR, gQ_sA, gQ_sL, gQ_sD, gL_sI, gL_sR, gL_sA, gL_sQ, gL_sD, kd_nO, kd_nA, *]) (by first | assumption | exact gI_sIs | exact gR_sRs | with_reducible rfl | (simp only [kd_sI, kd_sR, kd_sA, kd_sQ, kd_sL, kd_sD, ln_sI, ln_sR, ln_sA, ln_sQ, ln_sL, ln_sD, gI_sR, gI_sA, gI_sQ, gI_sL, gI_sD, gR_sI, gR_sA, gR_sQ, gR_sL, gR_sD, gA_sI, gA_sR, gA_sQ, gA_sL, gA_sD, gQ_sI, gQ_sR, gQ_sA, gQ_sL, gQ_sD, gL_sI, gL_sR, gL_sA, gL_sQ, gL_sD]; first | done | assumption | with_reducible rfl) | rfl) ?_
                refine r_iconst (v := nI 1) dX3_number_68 (by decide) ?_
                refine r_iadd dX3_number_69 ?_
                refine r_putI dX3_number_70 fG_X3_221 (fun _ => by first | rfl | contradiction) (by first | assumption | (simp only [kd_sI, kd_sR, kd_sA, kd_sQ, kd_sL, kd_sD, ln_sI, ln_sR, ln_sA, ln_sQ, ln_sL, ln_sD, gI_sR, gI_sA, gI_sQ, gI_sL, gI_sD, gR_sI, gR_sA, gR_sQ, gR_sL, gR_sD, gA_sI, gA_sR, gA_sQ, gA_sL, gA_sD, gQ_sI, gQ_sR, gQ_sA, gQ_sL, gQ_sD, gL_sI, gL_sR, gL_sA, gL_sQ, gL_sD]; assumption) | simp [kd_sI, kd_sR, kd_sA, kd_sQ, kd_sL, kd_sD, ln_sI, ln_sR, ln_sA, ln_sQ, ln_sL, ln_sD, gI_sR, gI_sA, gI_sQ, gI_sL, gI_sD, gR_sI, gR_sA, gR_sQ, gR_sL, gR_sD, gA_sI, gA_sR, gA_sQ, gA_sL, gA_sD, gQ_sI, gQ_sR, gQ_sA, gQ_sL, gQ_sD, gL_sI, gL_sR, gL_sA, gL_sQ, gL_sD, kd_nO, kd_nA, *]) (by first | rfl | assumption) (by first | rfl | assumption) ?_
                refine r_iinc dX3_number_73 rfl (by first | exact nI_1 _ | rfl) (by simp only [lset]; rfl) ?_
                refine r_goto (tgt := 12) dX3_number_76 (by decide) ?_
                refine ih (j + 1) (10 * n + (B.getD q 0 - 48)) (q + 1) _ (by omega) ?_ (by omega) ((hU2.sA (f := 93) (Or.inl (by decide)) (by decide) (by decide)).sI (f := 90) (by decide) (by decide) (by decide)) (by rw [gI_sIs]; exact nI_add _ 1) ?_ hN
                · have h9 : (10 * n + (B.getD q 0 - 48)) * 10 ^ k < 10 * (n + 1) * 10 ^ k := Nat.mul_lt_mul_of_pos_right (by omega) (Nat.pow_pos (by decide))
                  have hk : k = 0 ∨ k = 1 ∨ k = 2 := by omega
                  obtain ⟨e9, he9⟩ := ex_val (B.getD q 0 - 48)
                  have he : e9 ≤ 9 := by omega
                  rw [← he9]
                  rcases hk with rfl | rfl | rfl <;> simp at hn ⊢ <;> omega
                · show gA (sA H2 1093 (ma 93) _) 1093 (ma 93) = _
                  rw [gA_sAs, hT2, upd_upd]
                  congr 2
                  omega
      exact loop 2 1 (B.getD p 0 - 48) (p + 1) H1 (by omega) (by omega) (by omega) hU1 hS1 hT hNL
    · exact absurd h5 (by show ¬ nI 1 = 0; decide)
theorem s_name {B : List Nat} {p a : Nat} (hd : 1 ≤ d) (hM : MO H m ma) (hR : BufR H m ma B) (hS : gI H 90 m = nI p) (hp : p ≤ 60) (ha : a + 4 < 320)
    (hQ : ∀ H', MU m ma [90, 93] H H' → gI H' 90 m = nI (pName B p).2 → (∀ nm, (pName B p).1 = some nm → gA H' 1093 (ma 93) = nameT (gA H 1093 (ma 93)) nm a ∧ nm.length ≤ 3) → Qr (some (vI (bI (pName B p).1.isSome))) H') : AMet G d 0 0 yX3_name wX3_name H [vR (some m), vI (nI a)] Qr Qx := by
  have e0 := hM.1
  have hb2 := hR.2.1
  have hb4 := hR.2.2.2
  obtain ⟨E, hE⟩ := ex_val (namLp B 3 p)
  unfold pName at hQ
  rw [← hE] at hQ
  obtain ⟨n1, n2, n3⟩ := namLp_le (B := B) 3 p
  rw [← hE] at n1 n2 n3
  refine AMet.of (M := mX3_name) (maxL := 3) rfl rfl (Nat.le_of_ble_eq_true rfl) ?_
  show AW mX3_name _ _ _ _ _ _ _ 0 [some (vR (some m)), some (vI (nI a)), none] []
  refine r_iconst (v := nI 0) dX3_name_0 (by decide) ?_
  refine r_istore_n (i := 2) dX3_name_1 rfl (Nat.le_of_ble_eq_true rfl) (by simp only [lset]; rfl) ?_
  have fin : ∀ (n : Nat) (H1 : AH), p + n = E → (n ≠ 0 → E ≤ B.length) → n ≤ 3 → MU m ma [90, 93] H H1 → gI H1 90 m = nI E → (∀ i, gA H1 1093 (ma 93) i = if a + 1 ≤ i ∧ i < a + 1 + n then nI (B.getD (p + (i - (a + 1))) 0) else gA H 1093 (ma 93) i) → AW mX3_name G d Qr Qx 0 0 H1 51 [some (vR (some m)), some (vI (nI a)), some (vI (nI n))] [] := by
    intro n H1 hn hnl hn3 hU hS1 hT1
    have hM1 := hM.mf hU.1
    have e01 := hM1.1
    obtain ⟨e93a_1, e93b_1, e93c_1⟩ : gR H1 93 m = some (ma 93) ∧ kd H1 (ma 93) = 1093 ∧ ln H1 (ma 93) = 320 := hM1.2 93 (by decide)
    refine r_aload_n (i := 0) dX3_name_51 rfl rfl ?_
    refine r_getR dX3_name_52 fR_X3_60 (by first | assumption | (simp only [kd_sI, kd_sR, kd_sA, kd_sQ, kd_sL, kd_sD, ln_sI, ln_sR, ln_sA, ln_sQ, ln_sL, ln_sD, gI_sR, gI_sA, gI_sQ, gI_sL, gI_sD, gR_sI, gR_sA, gR_sQ, gR_sL, gR_sD, gA_sI, gA_sR, gA_sQ, gA_sL, gA_sD, gQ_sI, gQ_sR, gQ_sA, gQ_sL, gQ_sD, gL_sI, gL_sR, gL_sA, gL_sQ, gL_sD]; assumption) | simp [kd_sI, kd_sR, kd_sA, kd_sQ, kd_sL, kd_sD, ln_sI, ln_sR, ln_sA, ln_sQ, ln_sL, ln_sD, gI_sR, gI_sA, gI_sQ, gI_sL, gI_sD, gR_sI, gR_sA, gR_sQ, gR_sL, gR_sD, gA_sI, gA_sR, gA_sQ, gA_sL, gA_sD, gQ_sI, gQ_sR, gQ_sA, gQ_sL, gQ_sD, gL_sI, gL_sR, gL_sA, gL_sQ, gL_sD, kd_nO, kd_nA, *]) (by first | assumption | exact gI_sIs | exact gR_sRs | with_reducible rfl | (simp only [kd_sI, kd_sR, kd_sA, kd_sQ, kd_sL, kd_sD, ln_sI, ln_sR, ln_sA, ln_sQ, ln_sL, ln_sD, gI_sR, gI_sA, gI_sQ, gI_sL, gI_sD, gR_sI, gR_sA, gR_sQ, gR_sL, gR_sD, gA_sI, gA_sR, gA_sQ, gA_sL, gA_sD, gQ_sI, gQ_sR, gQ_sA, gQ_sL, gQ_sD, gL_sI, gL_sR, gL_sA, gL_sQ, gL_sD]; first | done | assumption | with_reducible rfl) | rfl) ?_
    refine r_iload_n (i := 1) dX3_name_55 rfl rfl ?_
    refine r_iconst (v := nI 4) dX3_name_56 (by decide) ?_
    refine r_iadd dX3_name_57 ?_
    refine r_iload_n (i := 2) dX3_name_58 rfl rfl ?_
    refine r_iast dX3_name_59 (by first | assumption | (simp only [kd_sI, kd_sR, kd_sA, kd_sQ, kd_sL, kd_sD, ln_sI, ln_sR, ln_sA, ln_sQ, ln_sL, ln_sD, gI_sR, gI_sA, gI_sQ, gI_sL, gI_sD, gR_sI, gR_sA, gR_sQ, gR_sL, gR_sD, gA_sI, gA_sR, gA_sQ, gA_sL, gA_sD, gQ_sI, gQ_sR, gQ_sA, gQ_sL, gQ_sD, gL_sI, gL_sR, gL_sA, gL_sQ, gL_sD]; assumption) | simp [kd_sI, kd_sR, kd_sA, kd_sQ, kd_sL, kd_sD, ln_sI, ln_sR, ln_sA, ln_sQ, ln_sL, ln_sD, gI_sR, gI_sA, gI_sQ, gI_sL, gI_sD, gR_sI, gR_sA, gR_sQ, gR_sL, gR_sD, gA_sI, gA_sR, gA_sQ, gA_sL, gA_sD, gQ_sI, gQ_sR, gQ_sA, gQ_sL, gQ_sD, gL_sI, gL_sR, gL_sA, gL_sQ, gL_sD, kd_nO, kd_nA, *]) (by first | decide | assumption) (by first | assumption | exact gI_sIs | exact gR_sRs | with_reducible rfl | (simp only [kd_sI, kd_sR, kd_sA, kd_sQ, kd_sL, kd_sD, ln_sI, ln_sR, ln_sA, ln_sQ, ln_sL, ln_sD, gI_sR, gI_sA, gI_sQ, gI_sL, gI_sD, gR_sI, gR_sA, gR_sQ, gR_sL, gR_sD, gA_sI, gA_sR, gA_sQ, gA_sL, gA_sD, gQ_sI, gQ_sR, gQ_sA, gQ_sL, gQ_sD, gL_sI, gL_sR, gL_sA, gL_sQ, gL_sD]; first | done | assumption | with_reducible rfl) | rfl) (by first | with_reducible rfl | assumption | (simp only [nI_add, pk_mul, nI_1]; with_reducible rfl)) (by first | assumption | omega) (by first | assumption | omega) ?_
    refine r_iload_n (i := 2) dX3_name_60 rfl rfl ?_
    refine r_if_le (tgt := 68) dX3_name_61 (by decide) (fun h61 => ?_) (fun h61 => ?_)
    · have hn0 : n = 0 := Nat.eq_zero_of_not_pos (fun q => absurd h61 (by rw [← nI_0]; exact nI_ge q (by omega)))
      rw [if_pos (by omega)] at hQ
      refine r_iconst (v := nI 0) dX3_name_68 (by decide) ?_
      refine r_ireturn dX3_name_69 rfl (by first | rfl | assumption | exact vp_nar_int _ | exact pk_nc _) ?_
      refine hQ _ (hU.sA (f := 93) (Or.inl (by decide)) (by decide) (by decide)) (by rw [gI_sA, hS1]; congr 1; omega) (fun v hv => by cases hv)
    · have hn0 : n ≠ 0 := fun e => h61 (by rw [e]; decide)
      rw [if_neg (by omega)] at hQ
      have hlen : ((B.drop p).take (E - p)).length = n := by
        rw [nm_len (by have := hnl hn0; omega)]
        omega
      refine r_iconst (v := nI 1) dX3_name_64 (by decide) ?_
      refine r_goto (tgt := 69) dX3_name_65 (by decide) ?_
      refine r_ireturn dX3_name_69 rfl (by first | rfl | assumption | exact vp_nar_int _ | exact pk_nc _) ?_
      refine hQ _ (hU.sA (f := 93) (Or.inl (by decide)) (by decide) (by decide)) hS1 (fun nm hv => ?_)
      cases hv
      refine ⟨?_, by rw [hlen]; exact hn3⟩
      rw [gA_sAs]
      funext i
      unfold upd nameT
      rw [hlen]
      by_cases h1 : i = a + 4
      · rw [if_pos h1, if_pos h1]
      · rw [if_neg h1, if_neg h1, hT1 i]
        by_cases h2 : a + 1 ≤ i ∧ i < a + 1 + n
        · rw [if_pos h2, if_pos h2, nm_get (by omega)]
        · rw [if_neg h2, if_neg h2]
  have loop : ∀ (k n : Nat) (H1 : AH), n + k = 3 → (n ≠ 0 → p + n ≤ B.length) → E = namLp B k (p + n) → MU m ma [90, 93] H H1 → gI H1 90 m = nI (p + n) → (∀ i, gA H1 1093 (ma 93) i = if a + 1 ≤ i ∧ i < a + 1 + n then nI (B.getD (p + (i - (a + 1))) 0) else gA H 1093 (ma 93) i) → AW mX3_name G d Qr Qx 0 0 H1 2 [some (vR (some m)), some (vI (nI a)), some (vI (nI n))] [] := by
    intro k
    induction k with
    | zero =>
      intro n H1 hn hnl hE1 hU hS1 hT1
      unfold namLp at hE1
      refine r_iload_n (i := 2) dX3_name_2 rfl rfl ?_
      refine r_iconst (v := nI 3) dX3_name_3 (by decide) ?_
      refine r_icmp_ge (tgt := 51) dX3_name_4 (by decide) (fun h4 => ?_) (fun h4 => ?_)
      · exact fin n H1 hE1.symm (fun q => by rw [hE1]; exact hnl q) (by omega) hU (by rw [hE1]; exact hS1) hT1
      · exact absurd (nI_le (by omega) (by omega)) h4
    | succ k ih =>
      intro n H1 hn hnl hE1 hU hS1 hT1
      have hM1 := hM.mf hU.1
      have e01 := hM1.1
      have hR1 := hR.mu hU (by decide) (by decide)
      obtain ⟨e93a_1, e93b_1, e93c_1⟩ : gR H1 93 m = some (ma 93) ∧ kd H1 (ma 93) = 1093 ∧ ln H1 (ma 93) = 320 := hM1.2 93 (by decide)
      unfold namLp at hE1
      have hp60 : p + n ≤ 60 := by
        by_cases h0 : n = 0
        · omega
        · have := hnl h0; omega
      refine r_iload_n (i := 2) dX3_name_2 rfl rfl ?_
      refine r_iconst (v := nI 3) dX3_name_3 (by decide) ?_
      refine r_icmp_ge (tgt := 51) dX3_name_4 (by decide) (fun h4 => ?_) (fun h4 => ?_)
      · exact absurd h4 (nI_ge (by omega) (by omega))
      · refine r_aload_n (i := 0) dX3_name_7 rfl rfl ?_
        refine r_callV (As := []) (mc' := 0) (ms' := 0) dX3_name_8 k_X3_224 rfl (by first | assumption | (simp only [kd_sI, kd_sR, kd_sA, kd_sQ, kd_sL, kd_sD, ln_sI, ln_sR, ln_sA, ln_sQ, ln_sL, ln_sD, gI_sR, gI_sA, gI_sQ, gI_sL, gI_sD, gR_sI, gR_sA, gR_sQ, gR_sL, gR_sD, gA_sI, gA_sR, gA_sQ, gA_sL, gA_sD, gQ_sI, gQ_sR, gQ_sA, gQ_sL, gQ_sD, gL_sI, gL_sR, gL_sA, gL_sQ, gL_sD]; assumption) | simp [kd_sI, kd_sR, kd_sA, kd_sQ, kd_sL, kd_sD, ln_sI, ln_sR, ln_sA, ln_sQ, ln_sL, ln_sD, gI_sR, gI_sA, gI_sQ, gI_sL, gI_sD, gR_sI, gR_sA, gR_sQ, gR_sL, gR_sD, gA_sI, gA_sR, gA_sQ, gA_sL, gA_sD, gQ_sI, gQ_sR, gQ_sA, gQ_sL, gQ_sD, gL_sI, gL_sR, gL_sA, gL_sQ, gL_sD, kd_nO, kd_nA, *]) (T := TX3) (N := 27) rfl (by first | assumption | omega) (by first | assumption | omega) (by first | assumption | omega) (Nat.le_of_ble_eq_true rfl) ?_
        refine s_here hM1 hR1 hS1 hp60 ?_
        refine r_bipush (v := nI 97) dX3_name_11 (by decide) ?_
        refine r_bipush (v := nI 122) dX3_name_13 (by decide) ?_
        refine r_callS (As := [_, _, _]) (mc' := 0) (ms' := 0) dX3_name_15 k_X3_90 rfl (by first | assumption | omega) (by first | assumption | omega) (by first | assumption | omega) (Nat.le_of_ble_eq_true rfl) ?_
        refine s_in ?_
        rw [show decide (nI 97 ≤ hereV B (p + n) ∧ hereV B (p + n) ≤ nI 122) = inR B (p + n) 97 122 from here_in hb4 (by decide) (by decide)]
        refine r_if_eq (tgt := 51) dX3_name_18 (by decide) (fun h18 => ?_) (fun h18 => ?_)
        · rw [if_neg (by rw [bI_eq0.mp h18]; decide)] at hE1
          exact fin n H1 hE1.symm (fun q => by rw [hE1]; exact hnl q) (by omega) hU (by rw [hE1]; exact hS1) hT1
        · have hd2 := bI_ne0 h18
          obtain ⟨l1, l2, l3, l4⟩ := here_c hd2
          rw [if_pos hd2] at hE1
          refine r_aload_n (i := 0) dX3_name_21 rfl rfl ?_
          refine r_getR dX3_name_22 fR_X3_60 (by first | assumption | (simp only [kd_sI, kd_sR, kd_sA, kd_sQ, kd_sL, kd_sD, ln_sI, ln_sR, ln_sA, ln_sQ, ln_sL, ln_sD, gI_sR, gI_sA, gI_sQ, gI_sL, gI_sD, gR_sI, gR_sA, gR_sQ, gR_sL, gR_sD, gA_sI, gA_sR, gA_sQ, gA_sL, gA_sD, gQ_sI, gQ_sR, gQ_sA, gQ_sL, gQ_sD, gL_sI, gL_sR, gL_sA, gL_sQ, gL_sD]; assumption) | simp [kd_sI, kd_sR, kd_sA, kd_sQ, kd_sL, kd_sD, ln_sI, ln_sR, ln_sA, ln_sQ, ln_sL, ln_sD, gI_sR, gI_sA, gI_sQ, gI_sL, gI_sD, gR_sI, gR_sA, gR_sQ, gR_sL, gR_sD, gA_sI, gA_sR, gA_sQ, gA_sL, gA_sD, gQ_sI, gQ_sR, gQ_sA, gQ_sL, gQ_sD, gL_sI, gL_sR, gL_sA, gL_sQ, gL_sD, kd_nO, kd_nA, *]) (by first | assumption | exact gI_sIs | exact gR_sRs | with_reducible rfl | (simp only [kd_sI, kd_sR, kd_sA, kd_sQ, kd_sL, kd_sD, ln_sI, ln_sR, ln_sA, ln_sQ, ln_sL, ln_sD, gI_sR, gI_sA, gI_sQ, gI_sL, gI_sD, gR_sI, gR_sA, gR_sQ, gR_sL, gR_sD, gA_sI, gA_sR, gA_sQ, gA_sL, gA_sD, gQ_sI, gQ_sR, gQ_sA, gQ_sL, gQ_sD, gL_sI, gL_sR, gL_sA, gL_sQ, gL_sD]; first | done | assumption | with_reducible rfl) | rfl) ?_
          refine r_iload_n (i := 1) dX3_name_25 rfl rfl ?_
          refine r_iconst (v := nI 1) dX3_name_26 (by decide) ?_
          refine r_iadd dX3_name_27 ?_
          refine r_iload_n (i := 2) dX3_name_28 rfl rfl ?_
          refine r_iadd dX3_name_29 ?_
          refine r_aload_n (i := 0) dX3_name_30 rfl rfl ?_
          try simp only [nI_add, pk_mul, nI_1]
          refine r_callV (As := []) (mc' := 0) (ms' := 0) dX3_name_31 k_X3_224 rfl (by first | assumption | (simp only [kd_sI, kd_sR, kd_sA, kd_sQ, kd_sL, kd_sD, ln_sI, ln_sR, ln_sA, ln_sQ, ln_sL, ln_sD, gI_sR, gI_sA, gI_sQ, gI_sL, gI_sD, gR_sI, gR_sA, gR_sQ, gR_sL, gR_sD, gA_sI, gA_sR, gA_sQ, gA_sL, gA_sD, gQ_sI, gQ_sR, gQ_sA, gQ_sL, gQ_sD, gL_sI, gL_sR, gL_sA, gL_sQ, gL_sD]; assumption) | simp [kd_sI, kd_sR, kd_sA, kd_sQ, kd_sL, kd_sD, ln_sI, ln_sR, ln_sA, ln_sQ, ln_sL, ln_sD, gI_sR, gI_sA, gI_sQ, gI_sL, gI_sD, gR_sI, gR_sA, gR_sQ, gR_sL, gR_sD, gA_sI, gA_sR, gA_sQ, gA_sL, gA_sD, gQ_sI, gQ_sR, gQ_sA, gQ_sL, gQ_sD, gL_sI, gL_sR, gL_sA, gL_sQ, gL_sD, kd_nO, kd_nA, *]) (T := TX3) (N := 27) rfl (by first | assumption | omega) (by first | assumption | omega) (by first | assumption | omega) (Nat.le_of_ble_eq_true rfl) ?_
          refine s_here hM1 hR1 hS1 hp60 ?_
          rw [l4]
          refine r_iast dX3_name_34 (by first | assumption | (simp only [kd_sI, kd_sR, kd_sA, kd_sQ, kd_sL, kd_sD, ln_sI, ln_sR, ln_sA, ln_sQ, ln_sL, ln_sD, gI_sR, gI_sA, gI_sQ, gI_sL, gI_sD, gR_sI, gR_sA, gR_sQ, gR_sL, gR_sD, gA_sI, gA_sR, gA_sQ, gA_sL, gA_sD, gQ_sI, gQ_sR, gQ_sA, gQ_sL, gQ_sD, gL_sI, gL_sR, gL_sA, gL_sQ, gL_sD]; assumption) | simp [kd_sI, kd_sR, kd_sA, kd_sQ, kd_sL, kd_sD, ln_sI, ln_sR, ln_sA, ln_sQ, ln_sL, ln_sD, gI_sR, gI_sA, gI_sQ, gI_sL, gI_sD, gR_sI, gR_sA, gR_sQ, gR_sL, gR_sD, gA_sI, gA_sR, gA_sQ, gA_sL, gA_sD, gQ_sI, gQ_sR, gQ_sA, gQ_sL, gQ_sD, gL_sI, gL_sR, gL_sA, gL_sQ, gL_sD, kd_nO, kd_nA, *]) (by first | decide | assumption) (by first | assumption | exact gI_sIs | exact gR_sRs | with_reducible rfl | (simp only [kd_sI, kd_sR, kd_sA, kd_sQ, kd_sL, kd_sD, ln_sI, ln_sR, ln_sA, ln_sQ, ln_sL, ln_sD, gI_sR, gI_sA, gI_sQ, gI_sL, gI_sD, gR_sI, gR_sA, gR_sQ, gR_sL, gR_sD, gA_sI, gA_sR, gA_sQ, gA_sL, gA_sD, gQ_sI, gQ_sR, gQ_sA, gQ_sL, gQ_sD, gL_sI, gL_sR, gL_sA, gL_sQ, gL_sD]; first | done | assumption | with_reducible rfl) | rfl) (by first | with_reducible rfl | assumption | (simp only [nI_add, pk_mul, nI_1]; with_reducible rfl)) (by first | assumption | omega) (by first | assumption | omega) ?_
          refine r_iinc dX3_name_35 rfl (by first | exact nI_1 _ | rfl) (by simp only [lset]; rfl) ?_
          refine r_aload_n (i := 0) dX3_name_38 rfl rfl ?_
          refine r_dup dX3_name_39 rfl ?_
          refine r_getI dX3_name_40 fR_X3_221 (by first | assumption | (simp only [kd_sI, kd_sR, kd_sA, kd_sQ, kd_sL, kd_sD, ln_sI, ln_sR, ln_sA, ln_sQ, ln_sL, ln_sD, gI_sR, gI_sA, gI_sQ, gI_sL, gI_sD, gR_sI, gR_sA, gR_sQ, gR_sL, gR_sD, gA_sI, gA_sR, gA_sQ, gA_sL, gA_sD, gQ_sI, gQ_sR, gQ_sA, gQ_sL, gQ_sD, gL_sI, gL_sR, gL_sA, gL_sQ, gL_sD]; assumption) | simp [kd_sI, kd_sR, kd_sA, kd_sQ, kd_sL, kd_sD, ln_sI, ln_sR, ln_sA, ln_sQ, ln_sL, ln_sD, gI_sR, gI_sA, gI_sQ, gI_sL, gI_sD, gR_sI, gR_sA, gR_sQ, gR_sL, gR_sD, gA_sI, gA_sR, gA_sQ, gA_sL, gA_sD, gQ_sI, gQ_sR, gQ_sA, gQ_sL, gQ_sD, gL_sI, gL_sR, gL_sA, gL_sQ, gL_sD, kd_nO, kd_nA, *]) (by first | assumption | exact gI_sIs | exact gR_sRs | with_reducible rfl | (simp only [kd_sI, kd_sR, kd_sA, kd_sQ, kd_sL, kd_sD, ln_sI, ln_sR, ln_sA, ln_sQ, ln_sL, ln_sD, gI_sR, gI_sA, gI_sQ, gI_sL, gI_sD, gR_sI, gR_sA, gR_sQ, gR_sL, gR_sD, gA_sI, gA_sR, gA_sQ, gA_sL, gA_sD, gQ_sI, gQ_sR, gQ_sA, gQ_sL, gQ_sD, gL_sI, gL_sR, gL_sA, gL_sQ, gL_sD]; first | done | assumption | with_reducible rfl) | rfl) ?_
          refine r_iconst (v := nI 1) dX3_name_43 (by decide) ?_
          refine r_iadd dX3_name_44 ?_
          refine r_putI dX3_name_45 fG_X3_221 (fun _ => by first | rfl | contradiction) (by first | assumption | (simp only [kd_sI, kd_sR, kd_sA, kd_sQ, kd_sL, kd_sD, ln_sI, ln_sR, ln_sA, ln_sQ, ln_sL, ln_sD, gI_sR, gI_sA, gI_sQ, gI_sL, gI_sD, gR_sI, gR_sA, gR_sQ, gR_sL, gR_sD, gA_sI, gA_sR, gA_sQ, gA_sL, gA_sD, gQ_sI, gQ_sR, gQ_sA, gQ_sL, gQ_sD, gL_sI, gL_sR, gL_sA, gL_sQ, gL_sD]; assumption) | simp [kd_sI, kd_sR, kd_sA, kd_sQ, kd_sL, kd_sD, ln_sI, ln_sR, ln_sA, ln_sQ, ln_sL, ln_sD, gI_sR, gI_sA, gI_sQ, gI_sL, gI_sD, gR_sI, gR_sA, gR_sQ, gR_sL, gR_sD, gA_sI, gA_sR, gA_sQ, gA_sL, gA_sD, gQ_sI, gQ_sR, gQ_sA, gQ_sL, gQ_sD, gL_sI, gL_sR, gL_sA, gL_sQ, gL_sD, kd_nO, kd_nA, *]) (by first | rfl | assumption) (by first | rfl | assumption) ?_
          refine r_goto (tgt := 2) dX3_name_48 (by decide) ?_
          refine ih (n + 1) _ (by omega) (fun _ => by omega) hE1 ((hU.sA (f := 93) (Or.inl (by decide)) (by decide) (by decide)).sI (f := 90) (by decide) (by decide) (by decide)) (by rw [gI_sIs]; exact nI_add _ 1) ?_
          intro i
          show gA (sA H1 1093 (ma 93) _) 1093 (ma 93) i = _
          rw [gA_sAs]
          unfold upd
          by_cases h1 : i = a + 1 + n
          · rw [if_pos h1, if_pos (by omega), show p + (i - (a + 1)) = p + n by omega]
          · rw [if_neg h1, hT1 i]
            by_cases h2 : a + 1 ≤ i ∧ i < a + 1 + n
            · rw [if_pos h2, if_pos (by omega)]
            · rw [if_neg h2, if_neg (by omega)]
  exact loop 3 0 H (by omega) (fun q => absurd rfl q) hE MU.rf hS (fun i => by rw [if_neg (by omega)])
end Mo20
