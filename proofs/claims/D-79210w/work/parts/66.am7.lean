set_option maxRecDepth 100000
theorem va_cpy_self {α : Type} (f g : Nat → α) (i j : Nat) : va_cpy f g i j 0 = g := by
  funext k
  unfold va_cpy
  rw [if_neg (by omega)]
theorem va_cpy_in {α : Type} (f g : Nat → α) (i j n k : Nat) (h : k < n) : va_cpy f g i j n (j + k) = f (i + k) := by
  unfold va_cpy
  rw [if_pos (by omega)]
  congr 1
  omega
theorem va_cpy_out {α : Type} (f g : Nat → α) (i j n k : Nat) (h : k < j ∨ j + n ≤ k) : va_cpy f g i j n k = g k := by
  unfold va_cpy
  rw [if_neg (by omega)]
/-- a word that every state of a run bears -/
def OKw (w : Cond) : Prop := w ∈ lw_all ∨ (w ∈ lw_tbl ∧ stW w = true ∧ w.onTables = true)
theorem okw_of (ws : List Cond) (ps : List Nat) (hp : ws = ps.filterMap (fun i => lw_tbl[i]?)) (hg : ws.all (fun w => goodWord w || (stW w && w.onTables)) = true) : ∀ w ∈ ws, OKw w := by
  intro w h
  have h1 := List.all_eq_true.mp hg w h
  rw [hp] at h
  obtain ⟨i, -, hi⟩ := List.mem_filterMap.mp h
  rw [Bool.or_eq_true] at h1
  rcases h1 with h1 | h1
  · exact Or.inl (lw_w i hi h1)
  · rw [Bool.and_eq_true] at h1
    exact Or.inr ⟨List.mem_of_getElem? hi, h1.1, h1.2⟩
theorem OKw.use {G : Gl} {s : State} {w : Cond} (h : OKw w) (hG : GW G s) (a : Array Value) : w.before a s = true := by
  rcases h with h | ⟨h1, h2, h3⟩
  · exact hG.2.1 _ h a
  · exact va_Nw.use h3 (hG.2.2.1 _ h1 h2)
theorem nfw_ac : nativeFrameWords "java/lang/System" "arraycopy" 5 + 11 ≤ 40 := by decide
section R7
variable {M : MI} {G : Gl} {d : Nat} {Qr : Option AV → AH → Prop} {Qx : String → Nat → AH → Prop} {rc rs : Nat} {H : AH} {pc : Nat} {ls : List (Option AV)} {st : List AV}
theorem r_copy_int {a b n0 n1 k0 k1 i j l idx : Nat} {sp dp n : Int32} (hd : decode M.2.1 pc = .ok (.invokestatic idx, 3)) (hw : Cond.methodLink M.1.cls idx arraycopyName ∈ lw_all) (hka : kd H a = k0) (hka9 : k0 / 1000 = 1) (hkb : kd H b = k1) (hkb9 : k1 / 1000 = 1) (hna : ln H a = n0) (hnb : ln H b = n1)
    (hsp : sp = nI i) (hdp : dp = nI j) (hn : n = nI l) (h1 : i + l ≤ n0) (h2 : j + l ≤ n1) (hb1 : n0 < 2147483648) (hb2 : n1 < 2147483648) (hd1 : 1 ≤ d) (hst : catS st ≤ 8) (k : AW M G d Qr Qx (rc) (rs) (sA H k1 b (va_cpy (gA H k0 a) (gA H k1 b) i j l)) (pc + 3) ls (st)) : AW M G d Qr Qx (rc) (rs) H (pc) ls (vI n :: vI dp :: vR (some b) :: vI sp :: vR (some a) :: st) := by
  intro mc ms p e R s m args below meth c hC Hc locs arr cells slots hR hS hl ha hc hs
  refine mp_wrap hC hS hc hs (fun s9 R9 hC9 hs9 K => ?_)
  have hS9 : va_S (gBase G) s9.heap Hc [] := by rw [hs9]; exact va_S.rf
  have hroom := hC9.2.2.2.2.2.2.2
  have hwd := nfw_ac
  obtain ⟨ws, hP, hD, hcov⟩ := hR
  obtain ⟨j0, hj0⟩ := hcov.1 a (by intro q; rw [hka] at q; subst q; simp at hka9)
  obtain ⟨j1, hj1⟩ := hcov.1 b (by intro q; rw [hkb] at q; subst q; simp at hkb9)
  rw [cellOf_int hka hka9 (by decide) (by decide)] at hj0
  rw [cellOf_int hkb hkb9 (by decide) (by decide)] at hj1
  subst hsp hdp hn
  have e1 : (nI i).toNatClampNeg = i := nI_clamp (by omega)
  have e2 : (nI j).toNatClampNeg = j := nI_clamp (by omega)
  have e3 : (nI l).toNatClampNeg = l := nI_clamp (by omega)
  refine va_copyi (D := G.2.1) (tys := tysOf G.2.2.1) hC9.1 hC9.2.1 ha.symm hC9.2.2.2.1 (hC9.2.2.2.2.2.2.2.2.2.2.2.1.2.1 _ hw _) (hC9.2.2.2.2.2.2.2.2.2.2.2.1.2.1 _ q481 _) (hC9.2.2.2.2.2.2.2.2.2.2.2.1.2.1 _ q480 _) (hC9.2.2.2.2.2.2.2.2.2.2.2.1.2.1 _ q111 _) hC9.2.2.2.2.2.2.2.2.2.2.2.1.1 hP hD hS9 j0 j1 0 0 hj0 hj1 rfl rfl rfl (nI_pos (by omega)) (nI_pos (by omega)) (nI_pos (by omega)) (by rw [e1, e3, hna]; exact h1) (by rw [e2, e3, hnb]; exact h2) (by rw [e1, e3]; exact fun _ _ => rfl) (by omega) (by rw [catS_eq]; omega) hd (fun H1 locs1 q1 q2 q3 => ?_)
  rw [e1, e2, e3] at q1 q2
  refine K H1 locs1 _ _ _ q3 (fun hm hS1 => k mc ms p e R s m args below meth c hC H1 _ arr _ _ ⟨_, q1, q2, cover_set hcov.1 hj1 (fun _ => ?_) (fun b9 hb9 hkb9 => ⟨hkb9, oth_sA hb9⟩), hcov.2.setA hm hj1⟩ hS1 hl ha (by omega) (by omega))
  rw [cellOf_int (k := k1) (by exact hkb) hkb9 (by decide) (by decide), gA_sAs, ln_sA]
theorem r_copy_byte {a b n0 n1 k0 k1 i j l idx : Nat} {sp dp n : Int32} (hd : decode M.2.1 pc = .ok (.invokestatic idx, 3)) (hw : Cond.methodLink M.1.cls idx arraycopyName ∈ lw_all) (hka : kd H a = k0) (hka9 : k0 / 1000 = 2) (hkb : kd H b = k1) (hkb9 : k1 / 1000 = 2) (hna : ln H a = n0) (hnb : ln H b = n1)
    (hsp : sp = nI i) (hdp : dp = nI j) (hn : n = nI l) (h1 : i + l ≤ n0) (h2 : j + l ≤ n1) (hb1 : n0 < 2147483648) (hb2 : n1 < 2147483648) (hfit : ∀ x, x < l → fits .byte (.int (gA H k0 a (i + x))) = true) (hd1 : 1 ≤ d) (hst : catS st ≤ 8) (k : AW M G d Qr Qx (rc) (rs) (sA H k1 b (va_cpy (gA H k0 a) (gA H k1 b) i j l)) (pc + 3) ls (st)) : AW M G d Qr Qx (rc) (rs) H (pc) ls (vI n :: vI dp :: vR (some b) :: vI sp :: vR (some a) :: st) := by
  intro mc ms p e R s m args below meth c hC Hc locs arr cells slots hR hS hl ha hc hs
  refine mp_wrap hC hS hc hs (fun s9 R9 hC9 hs9 K => ?_)
  have hS9 : va_S (gBase G) s9.heap Hc [] := by rw [hs9]; exact va_S.rf
  have hroom := hC9.2.2.2.2.2.2.2
  have hwd := nfw_ac
  obtain ⟨ws, hP, hD, hcov⟩ := hR
  obtain ⟨j0, hj0⟩ := hcov.1 a (by intro q; rw [hka] at q; subst q; simp at hka9)
  obtain ⟨j1, hj1⟩ := hcov.1 b (by intro q; rw [hkb] at q; subst q; simp at hkb9)
  rw [cellOf_int hka hka9 (by decide) (by decide)] at hj0
  rw [cellOf_int hkb hkb9 (by decide) (by decide)] at hj1
  subst hsp hdp hn
  have e1 : (nI i).toNatClampNeg = i := nI_clamp (by omega)
  have e2 : (nI j).toNatClampNeg = j := nI_clamp (by omega)
  have e3 : (nI l).toNatClampNeg = l := nI_clamp (by omega)
  refine va_copyi (D := G.2.1) (tys := tysOf G.2.2.1) hC9.1 hC9.2.1 ha.symm hC9.2.2.2.1 (hC9.2.2.2.2.2.2.2.2.2.2.2.1.2.1 _ hw _) (hC9.2.2.2.2.2.2.2.2.2.2.2.1.2.1 _ q481 _) (hC9.2.2.2.2.2.2.2.2.2.2.2.1.2.1 _ q480 _) (hC9.2.2.2.2.2.2.2.2.2.2.2.1.2.1 _ q111 _) hC9.2.2.2.2.2.2.2.2.2.2.2.1.1 hP hD hS9 j0 j1 1 1 hj0 hj1 rfl rfl rfl (nI_pos (by omega)) (nI_pos (by omega)) (nI_pos (by omega)) (by rw [e1, e3, hna]; exact h1) (by rw [e2, e3, hnb]; exact h2) (by rw [e1, e3]; exact fun x hx => hfit x hx) (by omega) (by rw [catS_eq]; omega) hd (fun H1 locs1 q1 q2 q3 => ?_)
  rw [e1, e2, e3] at q1 q2
  refine K H1 locs1 _ _ _ q3 (fun hm hS1 => k mc ms p e R s m args below meth c hC H1 _ arr _ _ ⟨_, q1, q2, cover_set hcov.1 hj1 (fun _ => ?_) (fun b9 hb9 hkb9 => ⟨hkb9, oth_sA hb9⟩), hcov.2.setA hm hj1⟩ hS1 hl ha (by omega) (by omega))
  rw [cellOf_int (k := k1) (by exact hkb) hkb9 (by decide) (by decide), gA_sAs, ln_sA]
theorem r_copy_obj {a b n0 n1 k0 k1 i j l idx : Nat} {sp dp n : Int32} (hd : decode M.2.1 pc = .ok (.invokestatic idx, 3)) (hw : Cond.methodLink M.1.cls idx arraycopyName ∈ lw_all) (hka : kd H a = k0) (hka9 : k0 / 1000 = 4) (hkb : kd H b = k1) (hkb9 : k1 / 1000 = 4) (hna : ln H a = n0) (hnb : ln H b = n1)
    (hsp : sp = nI i) (hdp : dp = nI j) (hn : n = nI l) (h1 : i + l ≤ n0) (h2 : j + l ≤ n1) (hb1 : n0 < 2147483648) (hb2 : n1 < 2147483648) (hel : ∀ x, x < l → ∀ y, gQ H k0 a (i + x) = some y → isObj G H y) (hd1 : 1 ≤ d) (hst : catS st ≤ 8) (k : AW M G d Qr Qx (rc) (rs) (sQ H k1 b (va_cpy (gQ H k0 a) (gQ H k1 b) i j l)) (pc + 3) ls (st)) : AW M G d Qr Qx (rc) (rs) H (pc) ls (vI n :: vI dp :: vR (some b) :: vI sp :: vR (some a) :: st) := by
  intro mc ms p e R s m args below meth c hC Hc locs arr cells slots hR hS hl ha hc hs
  refine mp_wrap hC hS hc hs (fun s9 R9 hC9 hs9 K => ?_)
  have hS9 : va_S (gBase G) s9.heap Hc [] := by rw [hs9]; exact va_S.rf
  have hroom := hC9.2.2.2.2.2.2.2
  have hwd := nfw_ac
  have hR0 := hR
  obtain ⟨ws, hP, hD, hcov⟩ := hR
  obtain ⟨j0, hj0⟩ := hcov.1 a (by intro q; rw [hka] at q; subst q; simp at hka9)
  obtain ⟨j1, hj1⟩ := hcov.1 b (by intro q; rw [hkb] at q; subst q; simp at hkb9)
  rw [cellOf_ref hka hka9 (by decide) (by decide)] at hj0
  rw [cellOf_ref hkb hkb9 (by decide) (by decide)] at hj1
  subst hsp hdp hn
  have e1 : (nI i).toNatClampNeg = i := nI_clamp (by omega)
  have e2 : (nI j).toNatClampNeg = j := nI_clamp (by omega)
  have e3 : (nI l).toNatClampNeg = l := nI_clamp (by omega)
  refine va_copyM (D := G.2.1) (tys := tysOf G.2.2.1) (E0 := "java/lang/Object") (E1 := "java/lang/Object") hC9.1 hC9.2.1 ha.symm hC9.2.2.2.1 (hC9.2.2.2.2.2.2.2.2.2.2.2.1.2.1 _ hw _) (hC9.2.2.2.2.2.2.2.2.2.2.2.1.2.1 _ q481 _) (hC9.2.2.2.2.2.2.2.2.2.2.2.1.2.1 _ q480 _) (hC9.2.2.2.2.2.2.2.2.2.2.2.1.2.1 _ q111 _) hC9.2.2.2.2.2.2.2.2.2.2.2.1.1 hP hD hS9 j0 j1 3 3 hj0 hj1 rfl rfl (nI_pos (by omega)) (nI_pos (by omega)) (nI_pos (by omega)) (by rw [e1, e3, hna]; exact h1) (by rw [e2, e3, hnb]; exact h2) (by rw [e1, e3]; exact fun x hx y hy => any_of hC9.2.2.2.2.2.2.2.2.2.2.2.1 hC9.2.2.2.2.2.2.2.2.2.2.2.2.1 hR0 hS9 (hel x hx y hy)) (by omega) (by rw [catS_eq]; omega) hd (fun H1 locs1 q1 q2 q3 => ?_)
  rw [e1, e2, e3] at q1 q2
  refine K H1 locs1 _ _ _ q3 (fun hm hS1 => k mc ms p e R s m args below meth c hC H1 _ arr _ _ ⟨_, q1, q2, cover_set hcov.1 hj1 (fun _ => ?_) (fun b9 hb9 hkb9 => ⟨hkb9, oth_sQ hb9⟩), hcov.2.setA hm hj1⟩ hS1 hl ha (by omega) (by omega))
  rw [cellOf_ref (k := k1) (by exact hkb) hkb9 (by decide) (by decide), gQ_sQs, ln_sQ]
/-- nothing copied out of the empty array -/
theorem r_copy_empty {b n1 k1 j idx : Nat} {sp dp n : Int32} (hd : decode M.2.1 pc = .ok (.invokestatic idx, 3)) (hw : Cond.methodLink M.1.cls idx arraycopyName ∈ lw_all) (hkb : kd H b = k1) (hkb9 : k1 / 1000 = 4) (hnb : ln H b = n1)
    (hsp : sp = 0) (hdp : dp = nI j) (hn : n = 0) (h2 : j ≤ n1) (hb2 : n1 < 2147483648) (hd1 : 1 ≤ d) (hst : catS st ≤ 8) (k : AW M G d Qr Qx (rc) (rs) H (pc + 3) ls (st)) : AW M G d Qr Qx (rc) (rs) H (pc) ls (vI n :: vI dp :: vR (some b) :: vI sp :: vR (some (gSt G 1)) :: st) := by
  intro mc ms p e R s m args below meth c hC Hc locs arr cells slots hR hS hl ha hc hs
  refine mp_wrap hC hS hc hs (fun s9 R9 hC9 hs9 K => ?_)
  have hS9 : va_S (gBase G) s9.heap Hc [] := by rw [hs9]; exact va_S.rf
  have hroom := hC9.2.2.2.2.2.2.2
  have hwd := nfw_ac
  obtain ⟨ws, hP, hD, hcov⟩ := hR
  obtain ⟨j1, hj1⟩ := hcov.1 b (by intro q; rw [hkb] at q; subst q; simp at hkb9)
  rw [cellOf_ref hkb hkb9 (by decide) (by decide)] at hj1
  subst hsp hdp hn
  have e1 : (0 : Int32).toNatClampNeg = 0 := rfl
  have e2 : (nI j).toNatClampNeg = j := nI_clamp (by omega)
  refine va_copyg (D := G.2.1) (tys := tysOf G.2.2.1) (E0 := "java/lang/Object") (E1 := "java/lang/Object") hC9.1 hC9.2.1 ha.symm hC9.2.2.2.1 (hC9.2.2.2.2.2.2.2.2.2.2.2.1.2.1 _ hw _) (hC9.2.2.2.2.2.2.2.2.2.2.2.1.2.1 _ q481 _) (hC9.2.2.2.2.2.2.2.2.2.2.2.1.2.1 _ q480 _) (hC9.2.2.2.2.2.2.2.2.2.2.2.1.2.1 _ q111 _) hC9.2.2.2.2.2.2.2.2.2.2.2.1.1 hP hD hS9 j1 3 hC9.2.2.2.2.2.2.2.2.2.2.2.2.1.2.2.2.2.2.2.1.1 hj1 rfl (by decide) (nI_pos (by omega)) (by decide) (by decide) (by rw [e2, e1, hnb]; exact h2) (by omega) (by rw [catS_eq]; omega) hd (fun H1 locs1 q1 q2 q3 => ?_)
  rw [e1, e2, va_cpy_self] at q1 q2
  refine K H1 locs1 _ _ _ q3 (fun hm hS1 => k mc ms p e R s m args below meth c hC H1 _ arr _ _ ⟨_, q1, q2, cover_set hcov.1 hj1 (fun _ => ?_) (fun b9 hb9 hkb9 => ⟨hkb9, rfl⟩), hcov.2.setA hm hj1⟩ hS1 hl ha (by omega) (by omega))
  rw [cellOf_ref (k := k1) (by exact hkb) hkb9 (by decide) (by decide)]
theorem r_clone_int {a n k0 idx : Nat} (k9 : Nat) (hd : decode M.2.1 pc = .ok (.invokevirtual idx, 3)) (hw : Cond.methodLink M.1.cls idx ⟨"[I", "clone", "()Ljava/lang/Object;"⟩ ∈ lw_all) (hka : kd H a = k0) (hka9 : k0 / 1000 = 1) (hk9 : k9 / 1000 = 1) (hna : ln H a = n) (hc1 : 1 ≤ rc) (hs1 : n ≤ rs) (hd1 : 1 ≤ d) (hst : catS st ≤ 8)
    (k : ∀ q, kd H q = 0 → AW M G d Qr Qx (rc - 1) (rs - n) (sA (nA H q k9 n) k9 q (gA H k0 a)) (pc + 3) ls (vR (some q) :: st)) : AW M G d Qr Qx (rc) (rs) H (pc) ls (vR (some a) :: st) := by
  intro mc ms p e R s m args below meth c hC Hc locs arr cells slots hR hS hl ha hc hs
  refine mp_wrap hC hS hc hs (fun s9 R9 hC9 hs9 K => ?_)
  have hS9 : va_S (gBase G) s9.heap Hc [] := by rw [hs9]; exact va_S.rf
  have hroom := hC9.2.2.2.2.2.2.2
  obtain ⟨ws, hP, hD, hcov⟩ := hR
  obtain ⟨j0, hj0⟩ := hcov.1 a (by intro q; rw [hka] at q; subst q; simp at hka9)
  rw [cellOf_int hka hka9 (by decide) (by decide), hna] at hj0
  have e2 : s9.vm.findClass ("[" ++ (.int : FieldType).toString) = some (G.2.2.1 1) := (hC9.2.2.2.2.2.2.2.2.2.2.2.1.1.2 0 _ rfl).2
  refine va_clone (D := G.2.1) (tys := tysOf G.2.2.1) (ad := "[I") hC9.1 hC9.2.1 ha.symm hC9.2.2.2.1 (hC9.2.2.2.2.2.2.2.2.2.2.2.1.2.1 _ hw _) (hC9.2.2.2.2.2.2.2.2.2.2.2.1.2.1 _ q1913 _) (hC9.2.2.2.2.2.2.2.2.2.2.2.1.2.1 _ q471 _) (hC9.2.2.2.2.2.2.2.2.2.2.2.1.2.1 _ q472 _) (hC9.2.2.2.2.2.2.2.2.2.2.2.1.2.1 _ q1914 _) (hC9.2.2.2.2.2.2.2.2.2.2.2.1.2.2.1 _ q1915 rfl) hC9.2.2.2.2.2.2.2.2.2.2.2.1.1 hP hD hS9 (fun q h => Nat.le_trans hC9.2.2.2.2.2.2.2.2.2.2.2.2.2.1 h) j0 0 hj0 rfl e2 (fun x v hx => ?_) (by omega) (by rw [catS_eq]; omega) (by omega) (by show 0 + n ≤ _; omega) hd (fun q H1 q0 q1 q2 q3 => ?_)
  · have hlt : x < n := by
      have h9 := (Array.getElem?_eq_some_iff.mp hx).1
      have h8 : (vp_cell (G.2.2.1 1) (n, .inl (gA H k0 a))).slots.size = n := arrV_size _ _ _
      omega
    have h7 : (vp_cell (G.2.2.1 1) (n, .inl (gA H k0 a))).slots[x]? = some (.int (gA H k0 a x)) := arrV_read _ _ hlt
    cases Option.some.inj (hx.symm.trans h7)
    exact rfl
  · have hfr := fresh_of hcov.1 q2
    refine K H1 [] _ _ _ q3 (fun hm hS1 => k q hfr mc ms p e R s m args below meth c hC H1 _ arr _ _ ⟨_, q1, q2, cover_push hcov.1 (fun _ => ?_) (fun b hb hkb => ⟨?_, ?_⟩), hcov.2.pushA hm⟩ hS1 hl ha (by show cells + (0 + 1) + _ ≤ _; omega) (by show slots + (0 + n) + _ ≤ _; omega))
    · rw [cellOf_int (k := k9) (by rw [kd_sA, kd_nA, if_pos rfl]) hk9 (by decide) (by decide), gA_sAs, ln_sA, ln_nA, if_pos rfl]
    · rw [kd_sA, kd_nA, if_neg hb] at hkb
      exact hkb
    · rw [oth_sA hb, oth_nA hb]
theorem r_cast_int {a k0 idx : Nat} (hd : decode M.2.1 pc = .ok (.checkcast idx, 3)) (hw : Cond.classLink M.1.cls idx "[I" ∈ lw_all) (hka : kd H a = k0) (hka9 : k0 / 1000 = 1) (k : AW M G d Qr Qx (rc) (rs) H (pc + 3) ls (vR (some a) :: st)) : AW M G d Qr Qx (rc) (rs) H (pc) ls (vR (some a) :: st) := by
  intro mc ms p e R s m args below meth c hC Hc locs arr cells slots hR hS hl ha hc hs
  have hR0 := hR
  obtain ⟨ws, hP, hD, hcov⟩ := hR
  obtain ⟨j0, hj0⟩ := hcov.1 a (by intro q; rw [hka] at q; subst q; simp at hka9)
  rw [cellOf_int hka hka9 (by decide) (by decide)] at hj0
  have e2 : s.vm.findClass ("[" ++ (.int : FieldType).toString) = some (G.2.2.1 1) := (hC.2.2.2.2.2.2.2.2.2.2.2.1.1.2 0 _ rfl).2
  exact va_castE hC.1 hC.2.1 hC.2.2.2.1 (hC.2.2.2.2.2.2.2.2.2.2.2.1.2.1 _ hw _) ⟨_, hP j0 _ hj0, rfl, e2⟩ hd (k mc ms p e R s m args below meth c hC Hc locs arr cells slots hR0 hS hl ha hc hs)
theorem r_clone_byte {a n k0 idx : Nat} (k9 : Nat) (hd : decode M.2.1 pc = .ok (.invokevirtual idx, 3)) (hw : Cond.methodLink M.1.cls idx ⟨"[B", "clone", "()Ljava/lang/Object;"⟩ ∈ lw_all) (hka : kd H a = k0) (hka9 : k0 / 1000 = 2) (hk9 : k9 / 1000 = 2) (hna : ln H a = n) (hfit : ∀ x, x < n → fits .byte (.int (gA H k0 a x)) = true) (hc1 : 1 ≤ rc) (hs1 : n ≤ rs) (hd1 : 1 ≤ d) (hst : catS st ≤ 8)
    (k : ∀ q, kd H q = 0 → AW M G d Qr Qx (rc - 1) (rs - n) (sA (nA H q k9 n) k9 q (gA H k0 a)) (pc + 3) ls (vR (some q) :: st)) : AW M G d Qr Qx (rc) (rs) H (pc) ls (vR (some a) :: st) := by
  intro mc ms p e R s m args below meth c hC Hc locs arr cells slots hR hS hl ha hc hs
  refine mp_wrap hC hS hc hs (fun s9 R9 hC9 hs9 K => ?_)
  have hS9 : va_S (gBase G) s9.heap Hc [] := by rw [hs9]; exact va_S.rf
  have hroom := hC9.2.2.2.2.2.2.2
  obtain ⟨ws, hP, hD, hcov⟩ := hR
  obtain ⟨j0, hj0⟩ := hcov.1 a (by intro q; rw [hka] at q; subst q; simp at hka9)
  rw [cellOf_int hka hka9 (by decide) (by decide), hna] at hj0
  have e2 : s9.vm.findClass ("[" ++ (.byte : FieldType).toString) = some (G.2.2.1 2) := (hC9.2.2.2.2.2.2.2.2.2.2.2.1.1.2 1 _ rfl).2
  refine va_clone (D := G.2.1) (tys := tysOf G.2.2.1) (ad := "[B") hC9.1 hC9.2.1 ha.symm hC9.2.2.2.1 (hC9.2.2.2.2.2.2.2.2.2.2.2.1.2.1 _ hw _) (hC9.2.2.2.2.2.2.2.2.2.2.2.1.2.1 _ q470 _) (hC9.2.2.2.2.2.2.2.2.2.2.2.1.2.1 _ q471 _) (hC9.2.2.2.2.2.2.2.2.2.2.2.1.2.1 _ q472 _) (hC9.2.2.2.2.2.2.2.2.2.2.2.1.2.1 _ q473 _) (hC9.2.2.2.2.2.2.2.2.2.2.2.1.2.2.1 _ q474 rfl) hC9.2.2.2.2.2.2.2.2.2.2.2.1.1 hP hD hS9 (fun q h => Nat.le_trans hC9.2.2.2.2.2.2.2.2.2.2.2.2.2.1 h) j0 1 hj0 rfl e2 (fun x v hx => ?_) (by omega) (by rw [catS_eq]; omega) (by omega) (by show 0 + n ≤ _; omega) hd (fun q H1 q0 q1 q2 q3 => ?_)
  · have hlt : x < n := by
      have h9 := (Array.getElem?_eq_some_iff.mp hx).1
      have h8 : (vp_cell (G.2.2.1 2) (n, .inl (gA H k0 a))).slots.size = n := arrV_size _ _ _
      omega
    have h7 : (vp_cell (G.2.2.1 2) (n, .inl (gA H k0 a))).slots[x]? = some (.int (gA H k0 a x)) := arrV_read _ _ hlt
    cases Option.some.inj (hx.symm.trans h7)
    exact hfit x hlt
  · have hfr := fresh_of hcov.1 q2
    refine K H1 [] _ _ _ q3 (fun hm hS1 => k q hfr mc ms p e R s m args below meth c hC H1 _ arr _ _ ⟨_, q1, q2, cover_push hcov.1 (fun _ => ?_) (fun b hb hkb => ⟨?_, ?_⟩), hcov.2.pushA hm⟩ hS1 hl ha (by show cells + (0 + 1) + _ ≤ _; omega) (by show slots + (0 + n) + _ ≤ _; omega))
    · rw [cellOf_int (k := k9) (by rw [kd_sA, kd_nA, if_pos rfl]) hk9 (by decide) (by decide), gA_sAs, ln_sA, ln_nA, if_pos rfl]
    · rw [kd_sA, kd_nA, if_neg hb] at hkb
      exact hkb
    · rw [oth_sA hb, oth_nA hb]
theorem r_cast_byte {a k0 idx : Nat} (hd : decode M.2.1 pc = .ok (.checkcast idx, 3)) (hw : Cond.classLink M.1.cls idx "[B" ∈ lw_all) (hka : kd H a = k0) (hka9 : k0 / 1000 = 2) (k : AW M G d Qr Qx (rc) (rs) H (pc + 3) ls (vR (some a) :: st)) : AW M G d Qr Qx (rc) (rs) H (pc) ls (vR (some a) :: st) := by
  intro mc ms p e R s m args below meth c hC Hc locs arr cells slots hR hS hl ha hc hs
  have hR0 := hR
  obtain ⟨ws, hP, hD, hcov⟩ := hR
  obtain ⟨j0, hj0⟩ := hcov.1 a (by intro q; rw [hka] at q; subst q; simp at hka9)
  rw [cellOf_int hka hka9 (by decide) (by decide)] at hj0
  have e2 : s.vm.findClass ("[" ++ (.byte : FieldType).toString) = some (G.2.2.1 2) := (hC.2.2.2.2.2.2.2.2.2.2.2.1.1.2 1 _ rfl).2
  exact va_castE hC.1 hC.2.1 hC.2.2.2.1 (hC.2.2.2.2.2.2.2.2.2.2.2.1.2.1 _ hw _) ⟨_, hP j0 _ hj0, rfl, e2⟩ hd (k mc ms p e R s m args below meth c hC Hc locs arr cells slots hR0 hS hl ha hc hs)
theorem r_getClass {a k0 idx : Nat} (hd : decode M.2.1 pc = .ok (.invokevirtual idx, 3)) (hw : Cond.methodLink M.1.cls idx ⟨"java/lang/Object", "getClass", "()Ljava/lang/Class;"⟩ ∈ lw_all) (hka : kd H a = k0) (hka9 : k0 / 1000 = 4) (hd1 : 1 ≤ d) (hst : catS st ≤ 8) (k : AW M G d Qr Qx (rc) (rs) H (pc + 3) ls (vR (some (gSt G 3)) :: st)) : AW M G d Qr Qx (rc) (rs) H (pc) ls (vR (some a) :: st) := by
  intro mc ms p e R s m args below meth c hC Hc locs arr cells slots hR hS hl ha hc hs
  have hroom := hC.2.2.2.2.2.2.2
  have hR0 := hR
  obtain ⟨ws, hP, hD, hcov⟩ := hR
  obtain ⟨j0, hj0⟩ := hcov.1 a (by intro q; rw [hka] at q; subst q; simp at hka9)
  rw [cellOf_ref hka hka9 (by decide) (by decide)] at hj0
  obtain ⟨_, _, _, _, _, e2⟩ := (hC.2.2.2.2.2.2.2.2.2.2.2.1.1.2 3 _ rfl).2
  exact va_getC (C := "[Ljava/lang/Object;") hC.1 hC.2.1 ha.symm hC.2.2.2.1 (hC.2.2.2.2.2.2.2.2.2.2.2.1.2.1 _ hw _) (va_Nw.use rfl (hC.2.2.2.2.2.2.2.2.2.2.2.1.2.2.1 _ q3272 rfl)) (hC.2.2.2.2.2.2.2.2.2.2.2.1.2.1 _ q3271 _) (hC.2.2.2.2.2.2.2.2.2.2.2.1.2.1 _ q812 _) (hC.2.2.2.2.2.2.2.2.2.2.2.1.2.1 _ q852 _) hC.2.2.2.2.2.2.2.2.2.2.2.1.2.2.2.2.2.2.2.2.1 ⟨_, hP j0 _ hj0, rfl, e2⟩ (by omega) (by rw [catS_eq]; omega) hd (k mc ms p e R s m args below meth c hC Hc locs arr cells slots hR0 hS hl ha hc hs)
theorem r_getClassE {idx : Nat} (hd : decode M.2.1 pc = .ok (.invokevirtual idx, 3)) (hw : Cond.methodLink M.1.cls idx ⟨"java/lang/Object", "getClass", "()Ljava/lang/Class;"⟩ ∈ lw_all) (hd1 : 1 ≤ d) (hst : catS st ≤ 8) (k : AW M G d Qr Qx (rc) (rs) H (pc + 3) ls (vR (some (gSt G 3)) :: st)) : AW M G d Qr Qx (rc) (rs) H (pc) ls (vR (some (gSt G 1)) :: st) := by
  intro mc ms p e R s m args below meth c hC Hc locs arr cells slots hR hS hl ha hc hs
  have hroom := hC.2.2.2.2.2.2.2
  obtain ⟨cell, g1, g2, g3, g4⟩ := hC.2.2.2.2.2.2.2.2.2.2.2.2.1.2.2.2.2.2.2.1.2.1
  have hlt : gSt G 1 < s.heap.size := (Array.getElem?_eq_some_iff.mp g1).1
  exact va_getC (C := "[Ljava/lang/Object;") hC.1 hC.2.1 ha.symm hC.2.2.2.1 (hC.2.2.2.2.2.2.2.2.2.2.2.1.2.1 _ hw _) (va_Nw.use rfl (hC.2.2.2.2.2.2.2.2.2.2.2.1.2.2.1 _ q3272 rfl)) (hC.2.2.2.2.2.2.2.2.2.2.2.1.2.1 _ q3271 _) (hC.2.2.2.2.2.2.2.2.2.2.2.1.2.1 _ q812 _) (hC.2.2.2.2.2.2.2.2.2.2.2.1.2.1 _ q852 _) hC.2.2.2.2.2.2.2.2.2.2.2.1.2.2.2.2.2.2.2.2.1 ⟨cell, by rw [hS.2.1 _ hlt g4]; exact g1, g2, g3⟩ (by omega) (by rw [catS_eq]; omega) hd (k mc ms p e R s m args below meth c hC Hc locs arr cells slots hR hS hl ha hc hs)
theorem r_ldcM {idx : Nat} (hd : decode M.2.1 pc = .ok (.ldc idx, 2)) (hw : Cond.classLink M.1.cls idx "[Ljava/lang/Object;" ∈ lw_all) (k : AW M G d Qr Qx (rc) (rs) H (pc + 2) ls (vR (some (gSt G 3)) :: st)) : AW M G d Qr Qx (rc) (rs) H (pc) ls (st) := by
  intro mc ms p e R s m args below meth c hC Hc locs arr cells slots hR hS hl ha hc hs
  exact va_ldcM hC.1 hC.2.1 hC.2.2.2.1 (hC.2.2.2.2.2.2.2.2.2.2.2.1.2.1 _ hw _) hC.2.2.2.2.2.2.2.2.2.2.2.1.2.2.2.2.2.2.2.2.1 hd (k mc ms p e R s m args below meth c hC Hc locs arr cells slots hR hS hl ha hc hs)
theorem r_ldcS (hM : M.1.cls = "CableTrayPlanner$Parser") (hd : decode M.2.1 pc = .ok (.ldc 72, 2)) (k : AW M G d Qr Qx (rc) (rs) H (pc + 2) ls (vR (some (gSt G 2)) :: st)) : AW M G d Qr Qx (rc) (rs) H (pc) ls (st) := by
  intro mc ms p e R s m args below meth c hC Hc locs arr cells slots hR hS hl ha hc hs
  exact va_ldcS (own := "CableTrayPlanner$Parser") (tx := "") hC.1 hC.2.1 (by rw [← hM]; exact hC.2.2.2.1) hC.2.2.2.2.2.2.2.2.2.2.2.1.2.2.2.2.2.2.2.1 hd (k mc ms p e R s m args below meth c hC Hc locs arr cells slots hR hS hl ha hc hs)
/-- an exception of the JDK's made under handlers: an object of ours -/
theorem r_makeU {names : List String} {ik ic : Nat} (hnames : ∀ n ∈ names, Bundle.fit n = true) (hk : Cond.classLink M.1.cls ik "java/lang/UnsupportedOperationException" ∈ lw_all) (hini : Cond.initialized "java/lang/UnsupportedOperationException" ∈ lw_all) (hat : ∀ w ∈ vx_at0 M.1.cls ic "java/lang/UnsupportedOperationException" names, OKw w) (hgood : ∀ w ∈ Cond.classLink M.1.cls ik "java/lang/UnsupportedOperationException" :: Cond.initialized "java/lang/UnsupportedOperationException" :: vx_at0 M.1.cls ic "java/lang/UnsupportedOperationException" names, vx_ot w = true)
    (d0 : decode M.2.1 pc = .ok (.new ik, 3)) (d3 : decode M.2.1 (pc + 3) = .ok (.dup, 1)) (d4 : decode M.2.1 (pc + 4) = .ok (.invokespecial ic, 3)) (hlen : names.length + 4 ≤ d) (hst : catS st ≤ 8) (h1 : 1 ≤ rc) (h2 : 6 ≤ rs) (k : ∀ q, kd H q = 0 → AW M G d Qr Qx (rc - 1) (rs - 6) (nO H q 28) (pc + 7) ls (vR (some q) :: st)) : AW M G d Qr Qx (rc) (rs) H (pc) ls (st) := by
  intro mc ms p e R s m args below meth c hC Hc locs arr cells slots hR hS hl ha hc hs
  refine mp_wrap hC hS hc hs (fun s9 R9 hC9 hs9 K => ?_)
  have hS9 : va_S (gBase G) s9.heap Hc [] := by rw [hs9]; exact va_S.rf
  have hroom := hC9.2.2.2.2.2.2.2
  obtain ⟨ws, hP, hD, hcov⟩ := hR
  refine vx_make0 (A := gBase G) (D := G.2.1) (cl := vwCl) (tys := tysOf G.2.2.1) (ci := 27) (T0 := TX9) hC9.1 hC9.2.1 hC9.2.2.2.2.2.2.2.2.2.2.2.2.2.2 hC9.2.2.2.1 (by decide) hnames (hC9.2.2.2.2.2.2.2.2.2.2.2.1.2.1 _ hk _) (hC9.2.2.2.2.2.2.2.2.2.2.2.1.2.1 _ hini _) (fun w hw => (hat w hw).use hC9.2.2.2.2.2.2.2.2.2.2.2.1 _) hgood hC9.2.2.2.2.2.2.2.2.2.2.2.2.1.2.2.2.2.2.2.2.1 hC9.2.2.2.2.2.2.2.2.2.2.2.2.1.2.2.2.2.2.2.2.2 hS9 ha d0 d3 d4 hC9.2.2.2.2.2.2.2.2.2.2.2.1.1 hP hD (fun q h => Nat.le_trans hC9.2.2.2.2.2.2.2.2.2.2.2.2.2.1 h) rfl (by omega) (by rw [catS_eq]; omega) (by omega) (by omega) (fun q H1 q1 q2 q3 => ?_)
  have hfr := fresh_of hcov.1 q2
  refine K H1 [] _ _ _ q3 (fun hm hS1 => k q hfr mc ms p e R s m args below meth c hC H1 _ arr _ _ ⟨_, q1, q2, cover_push hcov.1 (fun _ => ?_) (fun b hb hkb => ⟨?_, oth_nO hb⟩), hcov.2.push hm (fun ci fs he hc9 => by cases he; omega)⟩ hS1 hl ha (by omega) (by omega))
  · rw [cellOf_obj (ci := 27) (by rw [kd_nO, if_pos rfl]) (by decide)]
    rfl
  · rw [kd_nO, if_neg hb] at hkb
    exact hkb
theorem vx_catchAny {p : Program} {l : Launch} {e : Env} {R : Room} {s : State} {m : MethodId} {args : Array Value} {below : List Frame} {meth : Method} {c : Code} {H : Heap} {locs : List Loc} {cells slots : Nat} {Q : State → Prop} {ls : Array Slot} {rest : List Value} {pc : Nat} {own : String} {E : String} {ce : Cell} {q : Addr} (hown : s.vm.findClass own = some m.cls) (pre : List ExceptionTableEntry) (x : ExceptionTableEntry) (suf : List ExceptionTableEntry) (hsplit : c.exceptionTable.toList = pre ++ x :: suf)
    (hpass : ∀ z ∈ pre, covers z pc = false ∨ (z.catchType ≠ 0 ∧ ∃ nm : String, (Cond.classLink own z.catchType nm).before args s = true ∧ va_Nc E nm s)) (hx : covers x pc = true) (h0 : x.catchType = 0) (hcell : H[q]? = some ce) (hv : ce.vm = .none) (hcl : s.vm.findClass E = some ce.cls)
    (kk : W p l e R s m args below meth c H locs cells slots Q (F0 m x.handlerPc ls [.ref q])) : vx_W p l e R s m args below meth c H locs cells slots Q (F0 m pc ls rest) q := by
  intro T hT X
  have hpl : e.platform.magicAccessors = ({} : Platform).magicAccessors := by rw [X.admits.platform]
  obtain ⟨vm', X', st⟩ := X.thenCaughtThrough q (g := F0 m pc ls rest) rfl (Steps.refl _) (by rw [hT]; exact hcell) (by rw [hv]; rfl) (by obtain ⟨k9, h9, -⟩ := Vm.findClass_spec hcl; exact ⟨k9, h9⟩) pre x suf hsplit
    (fun z hz => by
      rcases hpass z hz with h | ⟨hz0, nm, hl1, hn1⟩
      · exact Or.inl h
      · obtain ⟨c6, hc6, hcl6⟩ := Cond.classLink_spec hown hl1 e.platform hpl
        obtain ⟨a8, b8, h1, h2, h3⟩ := hn1
        cases Option.some.inj (h1.symm.trans hcl)
        cases Option.some.inj (h2.symm.trans hc6)
        exact Or.inr ⟨hz0, _, hcl6, h3⟩) hx (Or.inl h0)
  obtain ⟨t, a1, b1⟩ := kk (T.setVm vm') hT X'
  exact ⟨t, st.trans a1, b1⟩
/-- caught by the row x, that takes any class -/
theorem x_catchAny {E : String} {q : Nat} (pre : List ExceptionTableEntry) (x : ExceptionTableEntry) (suf : List ExceptionTableEntry) (hsplit : tableOf M.2.2.2 = pre ++ x :: suf) (hpass : ∀ z ∈ pre, covers z pc = false ∨ (z.catchType ≠ 0 ∧ ∃ nm, Cond.classLink M.1.cls z.catchType nm ∈ lw_all ∧ (E, nm) ∈ ncL)) (hcov : covers x pc = true) (h0 : x.catchType = 0)
    (k : AW M G d Qr Qx rc rs H x.handlerPc ls [vR (some q)]) : AX M G d Qr Qx rc rs H pc ls E q := by
  intro mc ms p e R s m args below meth c hC Hc locs arr cells slots ce rest hR hS hl ha hc hs hce hcv hcl
  refine vx_catchAny (own := M.1.cls) hC.2.2.2.1 pre x suf (hC.2.2.2.2.2.2.1.trans hsplit) (fun z hz => ?_) hcov h0 hce hcv hcl (k mc ms p e R s m args below meth c hC Hc locs arr cells slots hR hS hl ha hc hs)
  rcases hpass z hz with h | ⟨h1, nm, h2, h3⟩
  · exact Or.inl h
  · exact Or.inr ⟨h1, nm, hC.2.2.2.2.2.2.2.2.2.2.2.1.2.1 _ h2 _, hC.2.2.2.2.2.2.2.2.2.2.2.1.2.2.2.2.1 (E, nm) h3⟩
theorem r_gs_sio {idx : Nat} (hd : decode M.2.1 pc = .ok (.getstatic idx, 3)) (hw : Cond.fieldLink M.1.cls idx "jdk/internal/util/Preconditions" "SIOOBE_FORMATTER" "Ljava/util/function/BiFunction;" ∈ lw_all) (k : ∀ r : Option Nat, AW M G d Qr Qx (rc) (rs) H (pc + 3) ls (vR r :: st)) : AW M G d Qr Qx (rc) (rs) H (pc) ls (st) := by
  intro mc ms p e R s m args below meth c hC Hc locs arr cells slots hR hS hl ha hc hs
  rcases hC.2.2.2.2.2.2.2.2.2.2.2.2.1.2.2.2.2.2.2.1.2.2 with h | ⟨t, h⟩
  · exact va_gets hC.1 hC.2.1 h hS hC.2.2.2.1 (hC.2.2.2.2.2.2.2.2.2.2.2.1.2.1 _ hw _) (fun _ h => h) hd (k none mc ms p e R s m args below meth c hC Hc locs arr cells slots hR hS hl ha hc hs)
  · exact va_gets hC.1 hC.2.1 h hS hC.2.2.2.1 (hC.2.2.2.2.2.2.2.2.2.2.2.1.2.1 _ hw _) (fun _ h => h) hd (k (some t) mc ms p e R s m args below meth c hC Hc locs arr cells slots hR hS hl ha hc hs)
theorem r_ldc2 {i : Nat} {v : Int64} (hd : decode M.2.1 pc = .ok (.ldc2_w i, 3)) (hw : Cond.constantLong M.1.cls i v ∈ lw_all) (k : AW M G d Qr Qx (rc) (rs) H (pc + 3) ls (vL v :: st)) : AW M G d Qr Qx (rc) (rs) H (pc) ls (st) := by
  intro mc ms p e R s m args below meth c hC Hc locs arr cells slots hR hS hl ha hc hs
  exact lv_ldc2 hC.1 hC.2.1 hC.2.2.2.1 (hC.2.2.2.2.2.2.2.2.2.2.2.1.2.1 _ hw _) hd (k mc ms p e R s m args below meth c hC Hc locs arr cells slots hR hS hl ha hc hs)
theorem r_throw1 {cls : String} {names : List String} {ik ic : Nat} (hcls : Bundle.fit cls = true) (hnames : ∀ n ∈ names, Bundle.fit n = true) (hk : Cond.classLink M.1.cls ik cls ∈ lw_all) (hini : Cond.initialized cls ∈ lw_all) (hat : ∀ w ∈ vx_at0 M.1.cls ic cls names, OKw w) (hgood : ∀ w ∈ Cond.classLink M.1.cls ik cls :: Cond.initialized cls :: vx_at0 M.1.cls ic cls names, vx_ot w = true)
    (d0 : decode M.2.1 pc = .ok (.new ik, 3)) (d3 : decode M.2.1 (pc + 3) = .ok (.dup, 1)) (d4 : decode M.2.1 (pc + 4) = .ok (.invokespecial ic, 3)) (d7 : decode M.2.1 (pc + 7) = .ok (.athrow, 1)) (hno : (tableOf M.2.2.2).all (fun x => !covers x (pc + 7)) = true)
    (hlen : names.length + 4 ≤ d) (hst : catS st ≤ 8) (h1 : 1 ≤ rc) (h2 : 6 ≤ rs) (hx : ∀ q, Qx cls q H) : AW M G d Qr Qx rc rs H pc ls st := by
  intro mc ms p e R s m args below meth c hC Hc locs arr cells slots hR hS hl ha hc hs
  have hG : GW G s := hC.2.2.2.2.2.2.2.2.2.2.2.1
  have hroom := hC.2.2.2.2.2.2.2
  refine vx_throw0 (A := gBase G) hC.1 hC.2.1 hC.2.2.2.2.2.2.2.2.2.2.2.2.2.2 hC.2.2.2.1 hcls hnames (hG.2.1 _ hk _) (hG.2.1 _ hini _) (fun w hw => (hat w hw).use hG _) hgood hC.2.2.2.2.2.2.2.2.2.2.2.2.1.2.2.2.2.2.2.2.1 hC.2.2.2.2.2.2.2.2.2.2.2.2.1.2.2.2.2.2.2.2.2 hS ha d0 d3 d4 d7 (fun x hx9 => ?_) (by omega) ?_ (by omega) (by omega) hC.2.2.2.2.1 (fun q9 t hv hz hq => ⟨H, hx q9, ?_, ?_⟩) hS.2.2 (by omega) (by omega)
  · rw [hC.2.2.2.2.2.2.1] at hx9
    have h9 := List.all_eq_true.mp hno x hx9
    simpa only [Bool.not_eq_true'] using h9
  · rw [catS_eq]
    omega
  · obtain ⟨ws, hP, hD, hcov⟩ := hR
    exact ⟨ws, hP.kept (fun k q hk9 => hq q.1 (hP k q hk9).lt), hD, hcov.1, hcov.2.kept (fun a cell ha9 => ⟨cell, by rw [hq a (Array.getElem?_eq_some_iff.mp ha9).1]; exact ha9, rfl⟩)⟩
  · exact ⟨Nat.le_trans hS.1 hz, fun q h3 h4 => by rw [hq q (Nat.lt_of_lt_of_le h3 hS.1)]; exact hS.2.1 q h3 h4⟩
theorem r_mmax {x y : Int32} {idx : Nat} (hd : decode M.2.1 pc = .ok (.invokestatic idx, 3)) (hw : Cond.methodLink M.1.cls idx ⟨"java/lang/Math", "max", "(II)I"⟩ ∈ lw_all) (hd1 : 1 ≤ d) (hst : catS st ≤ 8) (k : AW M G d Qr Qx (rc) (rs) H (pc + 3) ls (vI (if x < y then y else x) :: st)) : AW M G d Qr Qx (rc) (rs) H (pc) ls (vI y :: vI x :: st) := by
  intro mc ms p e R s m args below meth c hC Hc locs arr cells slots hR hS hl ha hc hs
  have hroom := hC.2.2.2.2.2.2.2
  exact va_mmax hC.1 hC.2.1 ha.symm hC.2.2.2.1 (hC.2.2.2.2.2.2.2.2.2.2.2.1.2.1 _ hw _) (hC.2.2.2.2.2.2.2.2.2.2.2.1.2.1 _ q459 _) (hC.2.2.2.2.2.2.2.2.2.2.2.1.2.1 _ q109 _) (hC.2.2.2.2.2.2.2.2.2.2.2.1.2.1 _ q460 _) (by omega) (by rw [catS_eq]; omega) (by omega) (by omega) hd (k mc ms p e R s m args below meth c hC Hc locs arr cells slots hR hS hl ha hc hs)
theorem r_mmin {x y : Int32} {idx : Nat} (hd : decode M.2.1 pc = .ok (.invokestatic idx, 3)) (hw : Cond.methodLink M.1.cls idx ⟨"java/lang/Math", "min", "(II)I"⟩ ∈ lw_all) (hd1 : 1 ≤ d) (hst : catS st ≤ 8) (k : AW M G d Qr Qx (rc) (rs) H (pc + 3) ls (vI (if y < x then y else x) :: st)) : AW M G d Qr Qx (rc) (rs) H (pc) ls (vI y :: vI x :: st) := by
  intro mc ms p e R s m args below meth c hC Hc locs arr cells slots hR hS hl ha hc hs
  have hroom := hC.2.2.2.2.2.2.2
  exact va_mmin hC.1 hC.2.1 ha.symm hC.2.2.2.1 (hC.2.2.2.2.2.2.2.2.2.2.2.1.2.1 _ hw _) (hC.2.2.2.2.2.2.2.2.2.2.2.1.2.1 _ q477 _) (hC.2.2.2.2.2.2.2.2.2.2.2.1.2.1 _ q109 _) (hC.2.2.2.2.2.2.2.2.2.2.2.1.2.1 _ q478 _) (by omega) (by rw [catS_eq]; omega) (by omega) (by omega) hd (k mc ms p e R s m args below meth c hC Hc locs arr cells slots hR hS hl ha hc hs)
theorem my_apart {args : Array Value} {s : State} {C O f d O' f' d' : String} (h : (Cond.laysFinal C O f d).before args s = true) (h' : (Cond.laysFinal C O' f' d').before args s = true) {cf kf fi fd cf' kf' fi' fd'} (hi : s.fieldFound? O f d = some (cf, kf, fi, fd)) (hi' : s.fieldFound? O' f' d' = some (cf', kf', fi', fd')) (hne : fd.name ≠ fd'.name ∨ O ≠ O') : fd.slot ≠ fd'.slot := by
  obtain ⟨a, k, c1, k1, i1, g1, ha, hk, hg, -, -, -, hown, -, d1, hd1, hn1, hn2, -⟩ := Cond.laysFinal_spec h
  obtain ⟨a', k', c1', k1', i1', g1', ha', hk', hg', -, -, -, hown', -, d1', hd1', hn1', hn2', -⟩ := Cond.laysFinal_spec h'
  cases ha.symm.trans ha'
  cases hi.symm.trans hg
  cases hi'.symm.trans hg'
  intro hs
  rw [hs] at hd1
  cases hd1.symm.trans hd1'
  rcases hne with hne | hne
  · exact hne (hn2.symm.trans hn2')
  · obtain ⟨z, hz, ez⟩ := Vm.findClass_spec hown
    obtain ⟨z', hz', ez'⟩ := Vm.findClass_spec hown'
    cases hz.symm.trans (State.fieldFound?_spec hg).1
    cases hz'.symm.trans (State.fieldFound?_spec hg').1
    exact hne (ez.symm.trans (hn1.symm.trans (hn1'.trans ez')))
theorem r_put3 {a ci code fid idx N q : Nat} {C : String} {T : u_T} {ty1 : Nat → FieldType} {w : AV} {H' : AH} (hd : decode M.2.1 pc = .ok (.putfield idx, 3)) (hT : ClsT ci C T N ty1) (f2 : q < N) (f3 : (cF ci)[q]? = some (code, fid)) (hallf : ∀ j, j < N → (T j).2.2.2 = true) (f5 : Cond.fieldLink M.1.cls idx (T q).1 (T q).2.1 (T q).2.2.1 ∈ lw_all) (f6 : (T q).1 = M.1.cls) (hin : M.1.name = "<init>") (hk : kd H a = ci + 1) (hn : narrow (ty1 q) (tV w) = tV w) (hfit : fits (ty1 q) (tV w) = true)
    (hkd : kd H' = kd H) (hw : (if code = 1 then va_rf (gR H' fid a) else if code = 2 then .float (gI H' fid a).toUInt32 else .int (gI H' fid a)) = tV w) (ho : ∀ f, f ≠ fid → gI H' f a = gI H f a ∧ gR H' f a = gR H f a) (hoth : ∀ dA b, b ≠ a → cellOf dA H' b = cellOf dA H b)
    (k : AW M G d Qr Qx (rc) (rs) H' (pc + 3) ls (st)) : AW M G d Qr Qx (rc) (rs) H (pc) ls (w :: vR (some a) :: st) := by
  intro mc ms p e R s m args below meth c hC Hc locs arr cells slots hR hS hl ha hc hs
  obtain ⟨c1, c2, c3, c4, c5, c6, c7⟩ := hT
  have hG : GW G s := hC.2.2.2.2.2.2.2.2.2.2.2.1
  obtain ⟨ws, hP, hD, hcov⟩ := hR
  obtain ⟨j, hj⟩ := hcov.1 a (by omega)
  rw [cellOf_obj hk c7] at hj
  have hlen : q < (fsOf H ci a).length := by
    unfold fsOf
    rw [List.length_map, c5]
    exact f2
  have lay : ∀ x, x < N → (Cond.laysFinal C (T x).1 (T x).2.1 (T x).2.2.1).before args s = true := by
    intro x hx
    have h9 := hG.2.1 _ (c2 _ (u_in_lay hx)) args
    unfold u_lay at h9
    rw [if_pos (hallf x hx)] at h9
    exact h9
  obtain ⟨rr, h1, cell, q1, q2, q3, q4⟩ := hP j _ hj
  have hr : rr = (C, T, N) := Option.some.inj (h1.symm.trans c1)
  subst hr
  obtain ⟨hS9, hfc, kC, hkC, hkind⟩ := hG.1.1 ci _ c1
  have hap : ∀ x y, x < N → y < N → x ≠ y → (G.2.1.2 ci) x ≠ (G.2.1.2 ci) y := by
    intro x y hx hy hne
    obtain ⟨_, _, _, fa, hia, ea⟩ := hS9 x hx
    obtain ⟨_, _, _, fb, hib, eb⟩ := hS9 y hy
    rw [← ea, ← eb]
    refine my_apart (lay x hx) (lay y hy) hia hib ?_
    rw [(State.fieldFound?_type hia (c3 x hx)).1, (State.fieldFound?_type hib (c3 y hy)).1]
    exact c4 x hx y hy hne
  obtain ⟨cf, kf, fi, f, hi, hsl⟩ := hS9 q f2
  have hst := (u_facts hfc hkC (Or.inr (lay q f2)) hi).1
  have hcf : m.cls = cf := by
    obtain ⟨_, _, c', _, _, _, -, -, hf', -, -, -, hown2, -⟩ := Cond.laysFinal_spec (lay q f2)
    have e1 : c' = cf := by have := hi.symm.trans hf'; simp at this; exact this.1.symm
    rw [f6] at hown2
    rw [← e1]
    exact Option.some.inj (hC.2.2.2.1.symm.trans hown2)
  have h6 := u_fits hfc hkC hkind (Or.inr (lay q f2)) hi (c3 q f2) hn hfit
  refine W.putFinK hC.1 hC.2.1 hC.2.2.2.1 (hG.2.1 _ f5 _) hi hst hcf (hC.2.2.2.2.2.1.trans hin) (by rw [q2]; exact h6) q1 q3 (by rw [hsl]; exact k2_hasslot (q4 q f2)) rfl rfl hd fun H1 e1 e2 e3 => ?_
  rw [hsl] at e1 ⊢
  have hmp : MP Hc H1 := by
    intro b cb hb
    by_cases hba : b = a
    · subst hba
      cases Option.some.inj (q1.symm.trans hb)
      exact ⟨_, e1, rfl⟩
    · exact ⟨cb, by rw [e3 b hba]; exact hb, rfl⟩
  have hat : va_at G.2.1 vwCl (a, .inr (ci, (fsOf H ci a).set q (tV w))) H1 := ⟨_, c1, t_OB.to (V := updV (vp_V (fsOf H ci a)) q (tV w)) ⟨_, e1, q2, q3, t_set q4 hap f2 (tV w)⟩ (fun j _ => vp_updV_set hlen (tV w) j)⟩
  refine k mc ms p e R s m args below meth c hC H1 _ arr cells slots ⟨_, hP.set hD hj hat e3, hD.set hj, cover_set hcov.1 hj (fun _ => ?_) (fun b hb hkb => ⟨by rw [← hkd]; exact hkb, hoth _ b hb⟩), hcov.2.setO hmp hj⟩ (hS.put e2 e3 (hD.2 j _ hj)) hl ha hc hs
  rw [cellOf_obj (by rw [hkd]; exact hk) c7, fsOf_set f3 c6 hw ho]
end R7
section R7b
variable {p : Program} {l : Launch} {e : Env} {R : Room} {s : State} {m : MethodId} {args : Array Value} {below : List Frame} {meth : Method} {c : Code} {H : Heap} {locs : List Loc} {cells slots : Nat}
theorem vx_callVUY {T : State} {locs : List Loc} {cells slots : Nat} (X : Stand p l e R s m args below meth c T locs cells slots) (hexec : p.tables.exec = Jvm.exec) {own C owner : String} {index : Nat} {x y : MethodName}
    (hown : s.vm.findClass own = some m.cls) (hlink : (Cond.methodLink own index x).before args s = true) (hsame : (Cond.sameMethod x.cls owner x.name x.desc).before args s = true)
    (hd0 : va_Decl s ⟨owner, x.name, x.desc⟩) (howner : owner ≠ "java/lang/invoke/MethodHandle" ∧ owner ≠ "java/lang/invoke/VarHandle")
    (hsel : (Cond.selects C x y).before args s = true) (hinst : (Cond.instanceMethod y).before args s = true)
    {W : Nat} {Pre : Pt → Array Value → Prop} {Post : Pt → Array Value → Option Value → Pt → Prop} {PostX : Pt → Array Value → Addr → Pt → Prop} (hK : vx_Back l R p e below s args y 3 W Pre Post PostX)
    {b : Addr} {cellB : Cell} (hcell : T.heap[b]? = some cellB) (hobj : cellB.vm.isStatics = false) (hcls : s.vm.findClass C = some cellB.cls)
    {g : JFrame} (hg : g.method = m) (hsize : g.locals.size = c.maxLocals) {argsL rest : List Value} (hlen : ∀ sig, parseMethodDescriptor x.desc = some sig → argsL.length = sig.parameters.length)
    (hstack : g.stack = argsL.reverse ++ .ref b :: rest) (hW : 2 * g.monitorRoom + (rest.map fun v => v.category).sum ≤ W) (hdg : decode c.code g.pc = .ok (.invokevirtual index, 3))
    (hpre : ∀ vm₁, s.WarmedH vm₁ → Pre ⟨T.setVm vm₁, locs, cells, slots⟩ (Value.ref b :: argsL).toArray) :
    (∃ (v : Option Value) (vm₁ : Vm) (B : Pt), s.WarmedH vm₁ ∧ Stand p l e R s m args below meth c B.U B.locs B.cells B.slots ∧ Post ⟨T.setVm vm₁, locs, cells, slots⟩ (Value.ref b :: argsL).toArray v B ∧
      ∀ target, Steps p.tables e below (B.U.setTop { g with pc := g.pc + 3, stack := v.toList ++ rest }) target → Steps p.tables e below (T.setTop g) target) ∨
    (∃ (q : Addr) (vm₁ : Vm) (B : Pt), s.WarmedH vm₁ ∧ Stand p l e R s m args below meth c B.U B.locs B.cells B.slots ∧ PostX ⟨T.setVm vm₁, locs, cells, slots⟩ (Value.ref b :: argsL).toArray q B ∧
      Steps p.tables e below (T.setTop g) ((B.U.setTop { g with stack := rest }).pushFrame (.throwing q))) := by
  obtain ⟨r0, r, hn, hrm, hstR, hsigR⟩ := hd0
  obtain ⟨cn, ck, r1, hcn, hck, hni, hf, hn1⟩ := Cond.sameMethod_found hsame
  cases hn.symm.trans hn1
  obtain ⟨mk, methM, hnamed, hmethM, -, habM⟩ := Cond.instanceMethod_spec hinst
  obtain ⟨c2, r2, m2, q1, q2, q3, q4, kP, hkP, hkPi⟩ := Cond.selects_spec hsel
  cases hcls.symm.trans q1
  cases hf.symm.trans q2
  cases hnamed.symm.trans q3
  have hselP : selectMethod e.platform s.vm cellB.cls r0 = .method mk := by rw [Launch.admits_selectMethod X.admits]; exact q4
  obtain ⟨vm₁, X₁, hstep₁⟩ := X.invokevirtualUp hexec hown hlink hsame howner hn hrm hstR (a := b) (cell := cellB) hcell
    (fun z h => by rw [h] at hobj; cases hobj) hselP hmethM habM hkP hkPi (g := g) hg (argsL := argsL) (rest := rest) (hlen _ hsigR) hstack hdg
  rcases hK m meth c ⟨T.setVm vm₁, locs, cells, slots⟩ { g with stack := rest } (.invokevirtual index) mk (Value.ref b :: argsL).toArray X₁ hg hsize hdg hW (X₁.named hnamed) (hpre vm₁ X₁.warmed) with ⟨v, B, X', hpost, hsteps⟩ | ⟨q, B, X', hpost, hsteps⟩
  · exact Or.inl ⟨v, vm₁, B, X₁.warmed, X', hpost, fun target h => hstep₁ _ fun acts => by rw [doInvoke_state]; exact hsteps.trans h⟩
  · exact Or.inr ⟨q, vm₁, B, X₁.warmed, X', hpost, hstep₁ _ fun acts => by rw [doInvoke_state]; exact hsteps⟩
theorem vx_runUX {hh : List (Nat × Nat × Nat × Nat)} {x y : MethodName} {bytes cc : ByteArray} {maxL nL mc ms n index : Nat} {ret : Option FieldType} {ws : List Cond} {rm : Room} {Pc : Array Value → State → Prop} {Qc : Array Value → State → Outcome → State → Prop} {XC : String → Addr → State → State → Prop} {free : Addr → Prop} {Ts : List Cond} {own C owner : String} {b : Addr} {As rest : List Value} {g : JFrame}
    (S : CallFix p m c cc nL s args Ts own) (hM : vx_Met l y ws rm Pc Qc XC mc ms free) (hrc : rm.cells = mc) (hrs : rm.slots = ms) (hfr : rm.frames + 1 ≤ R.frames) (hlo : 8 + (maxL + 11) + rm.locals ≤ R.locals) (hws : ∀ w ∈ ws, ∀ (a2 : Array Value) (U : State), s.WarmedH U.vm → w.before a2 U = true) (hcw : Cond.codeWith y bytes maxL ret hh ∈ ws) (hini : (Cond.initialized y.cls).before args s = true) (hMH : owner ≠ "java/lang/invoke/MethodHandle" ∧ owner ≠ "java/lang/invoke/VarHandle") (hlen : ∀ sig, parseMethodDescriptor x.desc = some sig → n = sig.parameters.length) (hlink : (Cond.methodLink own index x).before args s = true) (hsame : (Cond.sameMethod x.cls owner x.name x.desc).before args s = true) (hdecl : va_Decl s ⟨owner, x.name, x.desc⟩) (hsel : (Cond.selects C x y).before args s = true) (hinst : (Cond.instanceMethod y).before args s = true) (hp : PreV s H C b Pc As)
    (hg : g.method = m) (hn : As.length = n) (hsize : g.locals.size = nL) (hstack : g.stack = As.reverse ++ .ref b :: rest) (hW : 2 * g.monitorRoom + (rest.map fun v => v.category).sum ≤ 8) (hdg : decode cc g.pc = .ok (.invokevirtual index, 3)) (hf : cells + mc ≤ R.cells ∧ slots + ms ≤ R.slots) :
    vx_Run p l e R s m args below meth c H locs cells slots mc ms g rest (Qc (Value.ref b :: As).toArray) XC free := by
  have hK : vx_Back l R p e below s args y 3 8 (PreOf R mc ms Pc) (PostOf Qc mc ms free) (vx_Post XC mc ms free) := vx_backW (hh := hh) (bytes := bytes) (maxL := maxL) (ret := ret) hM hp.1 hrc hrs hfr hlo hws hcw (fun a' U hW => word_at hW (Or.inl (by first | rfl | simp [Cond.onTables, Cond.keeps, Cond.steady])) hini)
  obtain ⟨hx, hb, hml, ho, -⟩ := S
  obtain ⟨-, ⟨cellB, hcB, hoB, hclB⟩, hPc⟩ := hp
  intro T hT X
  rcases vx_callVUY X hx (C := C) (owner := owner) ho hlink hsame hdecl hMH hsel hinst hK (by rw [hT]; exact hcB) hoB hclB hg (hsize.trans hml.symm) (argsL := As) (rest := rest) (fun sig h => hn.trans (hlen sig h)) hstack hW (by rw [hb]; exact hdg)
    (fun vm₁ hW₁ => ⟨hf.1, hf.2, hPc (T.setVm vm₁) hT hW₁⟩) with ⟨v, vm₁, ⟨U', l2, c2, s2⟩, hW₁, X', ⟨g', mk, t, L, e1, e2, hq, h1, hL, h2, h3⟩, st⟩ | ⟨q, vm₁, ⟨U', l2, c2, s2⟩, hW₁, X', ⟨g', mk, t, L, E, ce, e1, e2, hq, hce, hcv, hcl, h1, hL, h2, h3⟩, st⟩
  · dsimp only [Pt.U, Pt.locs, Pt.cells, Pt.slots] at X' e1 e2 h1 h2 h3 st
    subst h1; subst h2; subst h3
    exact Or.inl ⟨v, (T.setVm vm₁).calling g' mk (Value.ref b :: As).toArray, t, U', L, hT, X', hL, e1, e2, hq, st⟩
  · dsimp only [Pt.U, Pt.locs, Pt.cells, Pt.slots] at X' e1 e2 h1 h2 h3 st hcl
    subst h1; subst h2; subst h3
    exact Or.inr ⟨q, (T.setVm vm₁).calling g' mk (Value.ref b :: As).toArray, t, U', L, E, ce, hT, X', hL, e1, e2, hq, hce, hcv, vx_cls hW₁ hcl, st⟩
end R7b
/-- a call of x that comes to y, a method with handlers, in an object of class C -/
def CUX (own : String) (idx : Nat) (C : String) (x y : MethodName) (cw : Cond) (n : Nat) : Prop := ∃ (cy : ByteArray) (maxL : Nat) (ret : Option FieldType) (hh : List (Nat × Nat × Nat × Nat)) (owner : String), cw = Cond.codeWith y cy maxL ret hh ∧ Cond.methodLink own idx x ∈ lw_all ∧ Cond.sameMethod x.cls owner x.name x.desc ∈ lw_all ∧ Cond.declares ⟨owner, x.name, x.desc⟩ ∈ lw_tbl ∧ Cond.selects C x y ∈ lw_all ∧ Cond.instanceMethod y ∈ lw_all ∧ Cond.initialized y.cls ∈ lw_all ∧ Cond.codeWith y cy maxL ret hh ∈ lw_all ∧ (owner ≠ "java/lang/invoke/MethodHandle" ∧ owner ≠ "java/lang/invoke/VarHandle") ∧ (parseMethodDescriptor x.desc).map (fun d => d.parameters.length) = some n ∧ maxL ≤ 40
section R7c
variable {M : MI} {G : Gl} {d : Nat} {Qr : Option AV → AH → Prop} {Qx : String → Nat → AH → Prop} {rc rs : Nat} {H : AH} {pc : Nat} {ls : List (Option AV)} {st : List AV}
theorem r_callUX {idx n mc' ms' b ci N : Nat} {x y : MethodName} {cw : Cond} {As : List AV} {C : String} {T : u_T} (hd : decode M.2.1 pc = .ok (.invokevirtual idx, 3)) (hw : CUX M.1.cls idx C x y cw n) (hn : As.length = n) (hk : kd H b = ci + 1) (hc9 : vwCl[ci]? = some (C, T, N)) (hd1 : 1 ≤ d) (h1 : mc' ≤ rc) (h2 : ms' ≤ rs) (hst : catS st ≤ 8) (hA : AMet G (d - 1) mc' ms' y cw H (vR (some b) :: As) (fun v H' => AW M G d Qr Qx (rc - mc') (rs - ms') H' (pc + 3) ls (v.toList ++ st)) (fun E q H' => AX M G d Qr Qx (rc - mc') (rs - ms') H' pc ls E q)) : AW M G d Qr Qx (rc) (rs) H (pc) ls (As.reverse ++ vR (some b) :: st) := by
  intro mc ms p e R s m args below meth c hC Hc locs arr cells slots hR hS hl ha hc hs
  obtain ⟨cy, maxL, ret, hh, owner, rfl, w1, w2, w3, w4, w5, w6, w7, w8, w9, w10⟩ := hw
  have hroom := hC.2.2.2.2.2.2.2
  refine run_AW (st := st) (a9 := (Value.ref b :: As.map tV).toArray) (mc' := mc') (ms' := ms') hC hS hl ha hc hs h1 h2 ?_
  exact vx_runUX (S := ⟨hC.1, hC.2.1, rfl, hC.2.2.2.1, fun w h => absurd h List.not_mem_nil⟩) (Ts := []) hA rfl rfl (by show d - 1 + 1 ≤ R.frames; omega) (by show 8 + (maxL + 11) + 64 * (d - 1) ≤ R.locals; omega) (fun w hw a2 U hW => by rw [List.mem_singleton] at hw; subst hw; exact (GW.warm hW hC.2.2.2.2.2.2.2.2.2.2.2.1).2.1 _ w7 _) List.mem_cons_self (hC.2.2.2.2.2.2.2.2.2.2.2.1.2.1 _ w6 _) w8 (fun sig hsig => by rw [hsig] at w9; exact (Option.some.inj w9).symm) (hC.2.2.2.2.2.2.2.2.2.2.2.1.2.1 _ w1 _) (hC.2.2.2.2.2.2.2.2.2.2.2.1.2.1 _ w2 _) (decl_D (hC.2.2.2.2.2.2.2.2.2.2.2.1.2.2.1 _ w3 rfl)) (hC.2.2.2.2.2.2.2.2.2.2.2.1.2.1 _ w4 _) (hC.2.2.2.2.2.2.2.2.2.2.2.1.2.1 _ w5 _) (pre_V hC hR hS hk hc9 As) rfl (by rw [List.length_map]; exact hn) ha (by show (List.map tV (As.reverse ++ vR (some b) :: st)) = _; rw [List.map_append, List.map_reverse] <;> rfl) (by show 2 * 0 + _ ≤ 8; rw [catS_eq]; omega) hd ⟨by omega, by omega⟩
end R7c
/-- a call of a private method of the superclass -/
def CUP (own : String) (idx : Nat) (C : String) (y : MethodName) (cw : Cond) (n : Nat) : Prop := ∃ (cy : ByteArray) (maxL : Nat) (ret : Option FieldType) (owner : String), cw = Cond.code y cy maxL ret ∧ Cond.methodLink own idx y ∈ lw_all ∧ Cond.sameMethod y.cls owner y.name y.desc ∈ lw_all ∧ ((Cond.instanceMethod ⟨owner, y.name, y.desc⟩ ∈ lw_all ∧ ∃ b L r, Cond.code ⟨owner, y.name, y.desc⟩ b L r ∈ lw_all) ∨ Cond.declares ⟨owner, y.name, y.desc⟩ ∈ lw_tbl) ∧ (C, y) ∈ sxL ∧ Cond.instanceMethod y ∈ lw_all ∧ Cond.initialized y.cls ∈ lw_all ∧ Cond.code y cy maxL ret ∈ lw_all ∧ (owner ≠ "java/lang/invoke/MethodHandle" ∧ owner ≠ "java/lang/invoke/VarHandle") ∧ (parseMethodDescriptor y.desc).map (fun d => d.parameters.length) = some n ∧ maxL ≤ 40
section R7d
variable {M : MI} {G : Gl} {d : Nat} {Qr : Option AV → AH → Prop} {Qx : String → Nat → AH → Prop} {rc rs : Nat} {H : AH} {pc : Nat} {ls : List (Option AV)} {st : List AV}
theorem r_callUP {idx n mc' ms' : Nat} {y : MethodName} {cw : Cond} {As : List AV} {b ci N : Nat} {C : String} {T : u_T} (hd : decode M.2.1 pc = .ok (.invokevirtual idx, 3)) (hw : CUP M.1.cls idx C y cw n) (hn : As.length = n) (hk : kd H b = ci + 1) (hc9 : vwCl[ci]? = some (C, T, N)) (hd1 : 1 ≤ d) (h1 : mc' ≤ rc) (h2 : ms' ≤ rs) (hst : catS st ≤ 8) (hA : AMet G (d - 1) mc' ms' y cw H (vR (some b) :: As) (fun v H' => AW M G d Qr Qx (rc - mc') (rs - ms') H' (pc + 3) ls (v.toList ++ st)) (fun E q H' => AX M G d Qr Qx (rc - mc') (rs - ms') H' pc ls E q)) : AW M G d Qr Qx (rc) (rs) H (pc) ls (As.reverse ++ vR (some b) :: st) := by
  intro mc ms p e R s m args below meth c hC Hc locs arr cells slots hR hS hl ha hc hs
  obtain ⟨cy, maxL, ret, owner, rfl, w1, wa, wb, wc, w7, w2, w3, w4, w5, w6⟩ := hw
  have hdecl : va_Decl s ⟨owner, y.name, y.desc⟩ := by
    rcases wb with ⟨wb, b9, L9, r9, wb2⟩ | wb
    · exact va_Decl.of (hC.2.2.2.2.2.2.2.2.2.2.2.1.2.1 _ wb #[]) (hC.2.2.2.2.2.2.2.2.2.2.2.1.2.1 _ wb2 #[])
    · exact decl_D (hC.2.2.2.2.2.2.2.2.2.2.2.1.2.2.1 _ wb rfl)
  have hroom := hC.2.2.2.2.2.2.2.2.2
  refine run_AW (st := st) (a9 := (Value.ref b :: As.map tV).toArray) (mc' := mc') (ms' := ms') hC hS hl ha hc hs h1 h2 ?_
  exact vx_runU (S := ⟨hC.1, hC.2.1, rfl, hC.2.2.2.1, fun w h => absurd h List.not_mem_nil⟩) (Ts := []) hA ⟨⟨rfl, rfl, (by show d - 1 + 1 ≤ R.frames; have := hC.2.2.2.2.2.2.2; omega), (by show 8 + (maxL + 11) + 64 * (d - 1) ≤ R.locals; have := hC.2.2.2.2.2.2.2; omega), (fun w hw a' U hW => by rw [List.mem_singleton] at hw; subst hw; exact (GW.warm hW hC.2.2.2.2.2.2.2.2.2.2.2.1).2.1 _ w3 _), List.mem_cons_self⟩, hC.2.2.2.2.2.2.2.2.2.2.2.1.2.1 _ w3 _, hC.2.2.2.2.2.2.2.2.2.2.2.1.2.1 _ w2 _, w4, (fun sig hsig => by rw [hsig] at w5; exact (Option.some.inj w5).symm), hC.2.2.2.2.2.2.2.2.2.2.2.1.2.1 _ w1 _, hC.2.2.2.2.2.2.2.2.2.2.2.1.2.1 _ wa _, hdecl, hC.2.2.2.2.2.2.2.2.2.2.2.1.2.2.2.2.2.2.2.2.2 (C, y) wc _, hC.2.2.2.2.2.2.2.2.2.2.2.1.2.1 _ w7 _⟩ (pre_V hC hR hS hk hc9 As) rfl (by rw [List.length_map]; exact hn) ha (by show (List.map tV (As.reverse ++ vR (some b) :: st)) = _; rw [List.map_append, List.map_reverse] <;> rfl) (by show 2 * 0 + _ ≤ 8; rw [catS_eq]; omega) hd ⟨by omega, by omega⟩
end R7d
theorem k_J6_100_P : CUP RJ6 100 RJ7 yJ6_ensureCapacityInternal wJ6_ensureCapacityInternal 1 := ⟨cJ6_ensureCapacityInternal, 3, (Option.none : Option Jvm.ClassFile.FieldType), "java/lang/AbstractStringBuilder", rfl, q447, q3214, Or.inl ⟨q449, _, _, _, q450⟩, List.mem_cons_self, q449, q91, q450, by decide, by decide +kernel, by decide⟩
theorem k_J6_104_P : CUP RJ6 104 RJ7 yJ6_newCapacity wJ6_newCapacity 1 := ⟨cJ6_newCapacity, 6, (Option.some Jvm.ClassFile.FieldType.int), "java/lang/AbstractStringBuilder", rfl, q451, q3215, Or.inl ⟨q453, _, _, _, q454⟩, List.mem_cons_of_mem _ List.mem_cons_self, q453, q91, q454, by decide, by decide +kernel, by decide⟩
theorem k_X1_120_X9 : CUX RX1 120 RX9 ⟨"CableTrayPlanner$1", "run", "()I"⟩ yX8_run wX8_run 0 := ⟨cX8_run, 6, (Option.some Jvm.ClassFile.FieldType.int), [((13 : Nat), (38 : Nat), (53 : Nat), (33 : Nat)), ((13 : Nat), (38 : Nat), (73 : Nat), (0 : Nat)), ((53 : Nat), (75 : Nat), (73 : Nat), (0 : Nat))], "CableTrayPlanner$Deed", rfl, q1848, q1849, q1850, q1851, q1852, q125, q1853, by decide, by decide +kernel, by decide⟩
theorem k_X1_129_X15 : CUX RX1 129 RX15 ⟨"CableTrayPlanner$2", "run", "()I"⟩ yX8_run wX8_run 0 := ⟨cX8_run, 6, (Option.some Jvm.ClassFile.FieldType.int), [((13 : Nat), (38 : Nat), (53 : Nat), (33 : Nat)), ((13 : Nat), (38 : Nat), (73 : Nat), (0 : Nat)), ((53 : Nat), (75 : Nat), (73 : Nat), (0 : Nat))], "CableTrayPlanner$Deed", rfl, q2189, q2190, q1850, q2191, q1852, q125, q1853, by decide, by decide +kernel, by decide⟩
section R7e
variable {M : MI} {G : Gl} {d : Nat} {Qr : Option AV → AH → Prop} {Qx : String → Nat → AH → Prop} {rc rs : Nat} {H : AH} {pc : Nat} {ls : List (Option AV)} {st : List AV}
theorem pre_VI {p : Program} {R : Room} {s : State} {m : MethodId} {meth : Method} {c : Code} {Hc : Heap} {locs : List Loc} {mc ms : Nat} {b j9 : Nat} (hC : CtxOK M G d mc ms p R s m meth c) (hR : Rep G H Hc) (hS : va_S (gBase G) s.heap Hc locs) (hj : j9 < 256) (hb : b = gSt G (j9 + 10)) (As : List AV) : PreV s Hc "java/lang/Integer" b (PcOf G H (vR (some b) :: As)) (As.map tV) := by
  refine ⟨FrameBlind_PcOf, ?_, fun U hU hW => ⟨rfl, by rw [hU]; exact GOK.go hW hC.2.2.2.2.2.2.2.2.2.2.2 hS, by rw [hU]; exact hR⟩⟩
  obtain ⟨cell, g1, g2, g3, g4⟩ := hC.2.2.2.2.2.2.2.2.2.2.2.2.1.2.2.2.2.1.1 j9 hj
  have hlt : gSt G (j9 + 10) < s.heap.size := (Array.getElem?_eq_some_iff.mp g1).1
  subst hb
  exact ⟨cell, by rw [hS.2.1 _ hlt g4]; exact g1, g2, g3⟩

theorem r_callVI {idx n mc' ms' : Nat} {y : MethodName} {cw : Cond} {As : List AV} {b j9 : Nat} (hd : decode M.2.1 pc = .ok (.invokevirtual idx, 3)) (hw : CV M.1.cls idx y cw n) (hn : As.length = n) (hy : y.cls = "java/lang/Integer") (hj : j9 < 256) (hb9 : b = gSt G (j9 + 10)) (hd1 : 1 ≤ d) (h1 : mc' ≤ rc) (h2 : ms' ≤ rs) (hst : catS st ≤ 8) (hA : AMet G (d - 1) mc' ms' y cw H (vR (some b) :: As) (fun v H' => AW M G d Qr Qx (rc - mc') (rs - ms') H' (pc + 3) ls (v.toList ++ st)) (fun E q H' => AX M G d Qr Qx (rc - mc') (rs - ms') H' pc ls E q)) : AW M G d Qr Qx (rc) (rs) H (pc) ls (As.reverse ++ vR (some b) :: st) := by
  intro mc ms p e R s m args below meth c hC Hc locs arr cells slots hR hS hl ha hc hs
  obtain ⟨⟨cy, maxL, ret, rfl, w1, w2, w3, w4, w5, w6⟩, w7, w8⟩ := hw
  have hroom := hC.2.2.2.2.2.2.2.2.2
  refine run_AW (st := st) (a9 := (Value.ref b :: As.map tV).toArray) (mc' := mc') (ms' := ms') hC hS hl ha hc hs h1 h2 ?_
  exact vx_runV (S := ⟨hC.1, hC.2.1, rfl, hC.2.2.2.1, fun w h => absurd h List.not_mem_nil⟩) (Ts := []) hA ⟨cb_of hC hd1 w1 w2 w3 w4 w5 w6, hC.2.2.2.2.2.2.2.2.2.2.2.1.2.1 _ w7 _, hC.2.2.2.2.2.2.2.2.2.2.2.1.2.1 _ w8 _⟩ (by rw [hy]; exact pre_VI hC hR hS hj hb9 As) rfl (by rw [List.length_map]; exact hn) ha (by show (List.map tV (As.reverse ++ vR (some b) :: st)) = _; rw [List.map_append, List.map_reverse] <;> rfl) (by show 2 * 0 + _ ≤ 8; rw [catS_eq]; omega) hd ⟨by omega, by omega⟩
end R7e
