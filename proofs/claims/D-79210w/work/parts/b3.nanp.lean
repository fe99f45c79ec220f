set_option maxRecDepth 100000
/-! NO NaN COMES OUT -/
def dOK (f : Jvm.FP.Core.Fmt) : Jvm.FP.Core.Datum → Prop
  | .nan => False
  | .inf _ => True
  | .fin _ c q => c < 2 ^ f.p ∧ q ≤ f.qmax
theorem dOK_bound {f : Jvm.FP.Core.Fmt} {s : Bool} {c : Nat} {q : Int} (hc : c < 2 ^ f.p) : dOK f (Jvm.FP.Core.bound f s c q) := by
  unfold Jvm.FP.Core.bound
  split
  · rename_i h
    exact ⟨hc, h⟩
  · trivial
theorem dOK_ratio {f : Jvm.FP.Core.Fmt} {s : Bool} {a b : Nat} {e : Int} (hp : 0 < f.p) (hq : f.qmin ≤ f.qmax) : dOK f (Jvm.FP.Core.roundRatio f s a b e) := by
  unfold Jvm.FP.Core.roundRatio
  split
  · exact ⟨Nat.two_pow_pos _, hq⟩
  · unfold Jvm.FP.Core.roundAt Jvm.FP.Core.settle
    split
    · rename_i h
      exact dOK_bound h
    · refine dOK_bound ?_
      unfold Jvm.FP.Core.Fmt.tails
      exact Nat.pow_lt_pow_right (by decide) (by omega)
theorem dOK_quot {f : Jvm.FP.Core.Fmt} {x y : Jvm.FP.Core.Datum} (hp : 0 < f.p) (hq : f.qmin ≤ f.qmax) (hx : x ≠ .nan) (hy : finN y = true) : dOK f (Jvm.FP.Core.quotient f x y) := by
  cases y with
  | nan => cases hy
  | inf s => cases hy
  | fin t d r =>
    have hd : ¬ d = 0 := by
      have h : (!(d == 0)) = true := hy
      simpa using h
    cases x with
    | nan => exact absurd rfl hx
    | inf s => exact True.intro
    | fin s c q =>
      show dOK f (if d = 0 then _ else Jvm.FP.Core.roundRatio f (s != t) c d (q - r))
      rw [if_neg hd]
      exact dOK_ratio hp hq
theorem enc_asm {f : Jvm.FP.Core.Fmt} {D : Jvm.FP.Core.Datum} (hp : 0 < f.p) (h : dOK f D) (hE : 2 ≤ f.exps) (hq : (f.qmax - f.qmin).toNat + 1 ≤ f.exps - 2) : ∃ s e t, Jvm.FP.Core.encode f D = Jvm.FP.Core.assemble f s e t ∧ t < f.tails ∧ e < f.exps ∧ (e = f.exps - 1 → t = 0) := by
  have ht : 0 < f.tails := Nat.two_pow_pos _
  have hp2 : 2 ^ f.p = 2 * f.tails := by
    unfold Jvm.FP.Core.Fmt.tails
    obtain ⟨k, hk⟩ : ∃ k, f.p = k + 1 := ⟨f.p - 1, by omega⟩
    rw [hk, Nat.add_sub_cancel, Nat.pow_succ, Nat.mul_comm]
  cases D with
  | nan => exact h.elim
  | inf s => exact ⟨s, _, 0, rfl, ht, by omega, fun _ => rfl⟩
  | fin s c q =>
    obtain ⟨h1, h2⟩ := h
    unfold Jvm.FP.Core.encode
    dsimp only
    by_cases hc : c < f.tails
    · rw [if_pos hc]
      exact ⟨s, 0, c, rfl, hc, by omega, fun e => by omega⟩
    · rw [if_neg hc]
      have : (q - f.qmin).toNat ≤ (f.qmax - f.qmin).toNat := by omega
      exact ⟨s, _, _, rfl, by omega, by omega, fun e => by omega⟩
theorem asm32 {s : Bool} {e t : Nat} (ht : t < Jvm.FP.Core.b32.tails) (he : e < Jvm.FP.Core.b32.exps) (h0 : e = Jvm.FP.Core.b32.exps - 1 → t = 0) : vf_n32 (.ofNat (Jvm.FP.Core.assemble Jvm.FP.Core.b32 s e t)) ∧ Jvm.FP.Core.decode Jvm.FP.Core.b32 (UInt32.ofNat (Jvm.FP.Core.assemble Jvm.FP.Core.b32 s e t)).toNat ≠ .nan := by
  have e1 : Jvm.FP.Core.b32.tails = 8388608 := by decide
  have e2 : Jvm.FP.Core.b32.exps = 256 := by decide
  rw [e1] at ht
  rw [e2] at he h0
  have ea : Jvm.FP.Core.assemble Jvm.FP.Core.b32 s e t = (s.toNat * 256 + e) * 8388608 + t := by
    unfold Jvm.FP.Core.assemble
    rw [e1, e2]
  have hs : s.toNat ≤ 1 := by cases s <;> decide
  have hlt : Jvm.FP.Core.assemble Jvm.FP.Core.b32 s e t < 4294967296 := by rw [ea]; omega
  have hn : (UInt32.ofNat (Jvm.FP.Core.assemble Jvm.FP.Core.b32 s e t)).toNat = Jvm.FP.Core.assemble Jvm.FP.Core.b32 s e t := by
    rw [UInt32.toNat_ofNat']
    exact Nat.mod_eq_of_lt hlt
  refine ⟨?_, ?_⟩
  · unfold vf_n32
    rw [UInt32.le_iff_toNat_le, UInt32.toNat_and, hn]
    rw [show (0x7fffffff : UInt32).toNat = 2 ^ 31 - 1 by decide, Nat.and_two_pow_sub_one_eq_mod, show (0x7f800000 : UInt32).toNat = 2139095040 by decide, ea]
    omega
  · rw [hn]
    unfold Jvm.FP.Core.decode
    have hE : Jvm.FP.Core.fieldE Jvm.FP.Core.b32 (Jvm.FP.Core.assemble Jvm.FP.Core.b32 s e t) = e := by
      unfold Jvm.FP.Core.fieldE
      rw [e1, e2, ea]
      omega
    have hT : Jvm.FP.Core.fieldT Jvm.FP.Core.b32 (Jvm.FP.Core.assemble Jvm.FP.Core.b32 s e t) = t := by
      unfold Jvm.FP.Core.fieldT
      rw [e1, ea]
      omega
    rw [hE, hT, e2]
    by_cases h : e = 256 - 1
    · rw [if_pos h, if_pos (h0 h)]
      exact fun q => by cases q
    · rw [if_neg h]
      split
      · exact fun q => by cases q
      · exact fun q => by cases q
theorem asm64 {s : Bool} {e t : Nat} (ht : t < Jvm.FP.Core.b64.tails) (he : e < Jvm.FP.Core.b64.exps) (h0 : e = Jvm.FP.Core.b64.exps - 1 → t = 0) : vf_n64 (.ofNat (Jvm.FP.Core.assemble Jvm.FP.Core.b64 s e t)) ∧ Jvm.FP.Core.decode Jvm.FP.Core.b64 (UInt64.ofNat (Jvm.FP.Core.assemble Jvm.FP.Core.b64 s e t)).toNat ≠ .nan := by
  have e1 : Jvm.FP.Core.b64.tails = 4503599627370496 := by decide
  have e2 : Jvm.FP.Core.b64.exps = 2048 := by decide
  rw [e1] at ht
  rw [e2] at he h0
  have ea : Jvm.FP.Core.assemble Jvm.FP.Core.b64 s e t = (s.toNat * 2048 + e) * 4503599627370496 + t := by
    unfold Jvm.FP.Core.assemble
    rw [e1, e2]
  have hs : s.toNat ≤ 1 := by cases s <;> decide
  have hlt : Jvm.FP.Core.assemble Jvm.FP.Core.b64 s e t < 18446744073709551616 := by rw [ea]; omega
  have hn : (UInt64.ofNat (Jvm.FP.Core.assemble Jvm.FP.Core.b64 s e t)).toNat = Jvm.FP.Core.assemble Jvm.FP.Core.b64 s e t := by
    rw [UInt64.toNat_ofNat']
    exact Nat.mod_eq_of_lt hlt
  refine ⟨?_, ?_⟩
  · unfold vf_n64
    rw [UInt64.le_iff_toNat_le, UInt64.toNat_and, hn]
    rw [show (0x7fffffffffffffff : UInt64).toNat = 2 ^ 63 - 1 by decide, Nat.and_two_pow_sub_one_eq_mod, show (0x7ff0000000000000 : UInt64).toNat = 9218868437227405312 by decide, ea]
    omega
  · rw [hn]
    unfold Jvm.FP.Core.decode
    have hE : Jvm.FP.Core.fieldE Jvm.FP.Core.b64 (Jvm.FP.Core.assemble Jvm.FP.Core.b64 s e t) = e := by
      unfold Jvm.FP.Core.fieldE
      rw [e1, e2, ea]
      omega
    have hT : Jvm.FP.Core.fieldT Jvm.FP.Core.b64 (Jvm.FP.Core.assemble Jvm.FP.Core.b64 s e t) = t := by
      unfold Jvm.FP.Core.fieldT
      rw [e1, ea]
      omega
    rw [hE, hT, e2]
    by_cases h : e = 2048 - 1
    · rw [if_pos h, if_pos (h0 h)]
      exact fun q => by cases q
    · rw [if_neg h]
      split
      · exact fun q => by cases q
      · exact fun q => by cases q
theorem b32ok : 0 < Jvm.FP.Core.b32.p ∧ Jvm.FP.Core.b32.qmin ≤ Jvm.FP.Core.b32.qmax ∧ 2 ≤ Jvm.FP.Core.b32.exps ∧ (Jvm.FP.Core.b32.qmax - Jvm.FP.Core.b32.qmin).toNat + 1 ≤ Jvm.FP.Core.b32.exps - 2 := by decide
theorem b64ok : 0 < Jvm.FP.Core.b64.p ∧ Jvm.FP.Core.b64.qmin ≤ Jvm.FP.Core.b64.qmax ∧ 2 ≤ Jvm.FP.Core.b64.exps ∧ (Jvm.FP.Core.b64.qmax - Jvm.FP.Core.b64.qmin).toNat + 1 ≤ Jvm.FP.Core.b64.exps - 2 := by decide
theorem i2f_num (a : Int32) : Jvm.FP.Core.decode Jvm.FP.Core.b32 (Jvm.FP.Core.i2f a).toNat ≠ .nan := by
  have h : dOK Jvm.FP.Core.b32 (Jvm.FP.Core.round Jvm.FP.Core.b32 (Jvm.FP.Core.ofInt a.toInt)) := dOK_ratio b32ok.1 b32ok.2.1
  obtain ⟨s, e, t, h1, h2, h3, h4⟩ := enc_asm b32ok.1 h b32ok.2.2.1 b32ok.2.2.2
  have e0 : Jvm.FP.Core.i2f a = .ofNat (Jvm.FP.Core.assemble Jvm.FP.Core.b32 s e t) := by
    unfold Jvm.FP.Core.i2f Jvm.FP.Core.fromInt
    rw [h1]
  rw [e0]
  exact (asm32 h2 h3 h4).2
theorem i2d_num (a : Int32) : Jvm.FP.Core.decode Jvm.FP.Core.b64 (Jvm.FP.Core.i2d a).toNat ≠ .nan := by
  have h : dOK Jvm.FP.Core.b64 (Jvm.FP.Core.round Jvm.FP.Core.b64 (Jvm.FP.Core.ofInt a.toInt)) := dOK_ratio b64ok.1 b64ok.2.1
  obtain ⟨s, e, t, h1, h2, h3, h4⟩ := enc_asm b64ok.1 h b64ok.2.2.1 b64ok.2.2.2
  have e0 : Jvm.FP.Core.i2d a = .ofNat (Jvm.FP.Core.assemble Jvm.FP.Core.b64 s e t) := by
    unfold Jvm.FP.Core.i2d Jvm.FP.Core.fromInt
    rw [h1]
  rw [e0]
  exact (asm64 h2 h3 h4).2
theorem fdiv_num {x y : UInt32} (hx : Jvm.FP.Core.decode Jvm.FP.Core.b32 x.toNat ≠ .nan) (hy : finN (Jvm.FP.Core.decode Jvm.FP.Core.b32 y.toNat) = true) : vf_n32 (Jvm.FP.Core.fdiv x y) ∧ Jvm.FP.Core.decode Jvm.FP.Core.b32 (Jvm.FP.Core.fdiv x y).toNat ≠ .nan := by
  have h : dOK Jvm.FP.Core.b32 (Jvm.FP.Core.quotient Jvm.FP.Core.b32 (Jvm.FP.Core.decode Jvm.FP.Core.b32 x.toNat) (Jvm.FP.Core.decode Jvm.FP.Core.b32 y.toNat)) := dOK_quot b32ok.1 b32ok.2.1 hx hy
  obtain ⟨s, e, t, h1, h2, h3, h4⟩ := enc_asm b32ok.1 h b32ok.2.2.1 b32ok.2.2.2
  have e0 : Jvm.FP.Core.fdiv x y = .ofNat (Jvm.FP.Core.assemble Jvm.FP.Core.b32 s e t) := by
    unfold Jvm.FP.Core.fdiv Jvm.FP.Core.div
    rw [h1]
  rw [e0]
  exact asm32 h2 h3 h4
theorem ddiv_num {x y : UInt64} (hx : Jvm.FP.Core.decode Jvm.FP.Core.b64 x.toNat ≠ .nan) (hy : finN (Jvm.FP.Core.decode Jvm.FP.Core.b64 y.toNat) = true) : vf_n64 (Jvm.FP.Core.ddiv x y) ∧ Jvm.FP.Core.decode Jvm.FP.Core.b64 (Jvm.FP.Core.ddiv x y).toNat ≠ .nan := by
  have h : dOK Jvm.FP.Core.b64 (Jvm.FP.Core.quotient Jvm.FP.Core.b64 (Jvm.FP.Core.decode Jvm.FP.Core.b64 x.toNat) (Jvm.FP.Core.decode Jvm.FP.Core.b64 y.toNat)) := dOK_quot b64ok.1 b64ok.2.1 hx hy
  obtain ⟨s, e, t, h1, h2, h3, h4⟩ := enc_asm b64ok.1 h b64ok.2.2.1 b64ok.2.2.2
  have e0 : Jvm.FP.Core.ddiv x y = .ofNat (Jvm.FP.Core.assemble Jvm.FP.Core.b64 s e t) := by
    unfold Jvm.FP.Core.ddiv Jvm.FP.Core.div
    rw [h1]
  rw [e0]
  exact asm64 h2 h3 h4
theorem f2d_num {x : UInt32} (hx : Jvm.FP.Core.decode Jvm.FP.Core.b32 x.toNat ≠ .nan) : vf_n64 (Jvm.FP.Core.f2d x) ∧ Jvm.FP.Core.decode Jvm.FP.Core.b64 (Jvm.FP.Core.f2d x).toNat ≠ .nan := by
  have h : dOK Jvm.FP.Core.b64 (Jvm.FP.Core.round Jvm.FP.Core.b64 (Jvm.FP.Core.decode Jvm.FP.Core.b32 x.toNat)) := by
    cases hd : Jvm.FP.Core.decode Jvm.FP.Core.b32 x.toNat with
    | nan => exact absurd hd hx
    | inf s => exact True.intro
    | fin s c q => exact dOK_ratio b64ok.1 b64ok.2.1
  obtain ⟨s, e, t, h1, h2, h3, h4⟩ := enc_asm b64ok.1 h b64ok.2.2.1 b64ok.2.2.2
  have e0 : Jvm.FP.Core.f2d x = .ofNat (Jvm.FP.Core.assemble Jvm.FP.Core.b64 s e t) := by
    unfold Jvm.FP.Core.f2d Jvm.FP.Core.convert
    rw [h1]
  rw [e0]
  exact asm64 h2 h3 h4
theorem den32 : ∀ b : Nat, b < 1000 → 0 < b → finN (Jvm.FP.Core.decode Jvm.FP.Core.b32 (Jvm.FP.Core.i2f (nI b)).toNat) = true := by decide +kernel
theorem den64 : ∀ b : Nat, b < 20 → 0 < b → finN (Jvm.FP.Core.decode Jvm.FP.Core.b64 (Jvm.FP.Core.i2d (nI b)).toNat) = true := by decide +kernel
theorem fill_num {g : Nat → Int32} {t : Nat} (hI : IG g) (ht : t < nat g 40) : vf_n32 (fillV g t) ∧ Jvm.FP.Core.decode Jvm.FP.Core.b32 (fillV g t).toNat ≠ .nan := by
  obtain ⟨-, h2, h3⟩ := hI.2.2.2.2.2.2.1.2.2 t ht
  unfold fillV
  refine fdiv_num (i2f_num _) ?_
  rw [h2.1]
  exact den32 _ h2.2 (by omega)
theorem asks_n {g : Nat → Int32} (hB : GB g) : ∃ m, m ≤ 12 ∧ q_asks g = nI m := by
  have h101 := hB.2.2.1.2
  obtain ⟨m, h1, h2, -⟩ := cnt_0 (P := fun c => !(decide (g (105 + 21 * c) = 0))) (nat g 101) (by omega)
  refine ⟨m, by omega, ?_⟩
  rw [← h2]
  unfold q_asks
  refine sumN_cg _ (fun c _ => ?_)
  by_cases h : g (105 + 21 * c) = 0
  · rw [if_pos h, decide_eq_true h]
    rfl
  · rw [if_neg h, decide_eq_false h]
    rfl
theorem mean_num {g : Nat → Int32} (hI : IG g) (h : ¬ q_asks g = 0) : vf_n64 (meanV g) ∧ Jvm.FP.Core.decode Jvm.FP.Core.b64 (meanV g).toNat ≠ .nan := by
  obtain ⟨m, h1, h2⟩ := asks_n hI.1
  unfold meanV
  refine ddiv_num (i2d_num _) ?_
  rw [h2] at h ⊢
  refine den64 _ (by omega) ?_
  rcases Nat.eq_zero_or_pos m with q | q
  · rw [q] at h
    exact absurd rfl h
  · exact q
