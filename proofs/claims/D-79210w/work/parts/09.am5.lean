set_option maxRecDepth 100000
theorem vp_in_of9 {i : Int32} {j n : Nat} (hi : i = nI j) (hj : j < n) (hn : n < 2147483648) : vp_in i n ∧ i.toNatClampNeg = j := by
  subst hi
  exact ⟨vp_in_nI hj hn, nI_clamp (by omega)⟩
/-- a thing that may lie in an array of objects: an object of ours, or a small Integer -/
def isObj (G : Gl) (H : AH) (a : Nat) : Prop := (0 < kd H a ∧ kd H a < 28) ∨ ∃ k, k < 256 ∧ a = gSt G (k + 10)
theorem castL : ∀ q ∈ vwCl, Cond.castable q.1 "java/lang/Object" ∈ lw_tbl := by
  unfold vwCl
  exact List.forall_mem_cons.mpr ⟨q3231, List.forall_mem_cons.mpr ⟨q3232, List.forall_mem_cons.mpr ⟨q3244, List.forall_mem_cons.mpr ⟨q3245, List.forall_mem_cons.mpr ⟨q3247, List.forall_mem_cons.mpr ⟨q3252, List.forall_mem_cons.mpr ⟨q3253, List.forall_mem_cons.mpr ⟨q3261, List.forall_mem_cons.mpr ⟨q3254, List.forall_mem_cons.mpr ⟨q3259, List.forall_mem_cons.mpr ⟨q3255, List.forall_mem_cons.mpr ⟨q3256, List.forall_mem_cons.mpr ⟨q3257, List.forall_mem_cons.mpr ⟨q3263, List.forall_mem_cons.mpr ⟨q3264, List.forall_mem_cons.mpr ⟨q3265, List.forall_mem_cons.mpr ⟨q3266, List.forall_mem_cons.mpr ⟨q3267, List.forall_mem_cons.mpr ⟨q3237, List.forall_mem_cons.mpr ⟨q3233, List.forall_mem_cons.mpr ⟨q3234, List.forall_mem_cons.mpr ⟨q3235, List.forall_mem_cons.mpr ⟨q3236, List.forall_mem_cons.mpr ⟨q3246, List.forall_mem_cons.mpr ⟨q3239, List.forall_mem_cons.mpr ⟨q3241, List.forall_mem_cons.mpr ⟨q3230, List.forall_mem_cons.mpr ⟨q3260, fun _ h => absurd h List.not_mem_nil⟩⟩⟩⟩⟩⟩⟩⟩⟩⟩⟩⟩⟩⟩⟩⟩⟩⟩⟩⟩⟩⟩⟩⟩⟩⟩⟩⟩
theorem castO (ci : Nat) (q : vw_C) (_ : ci < 28) (hq : vwCl[ci]? = some q) : Cond.castable q.1 "java/lang/Object" ∈ lw_tbl := castL q (List.mem_of_getElem? hq)
theorem castI : Cond.castable "java/lang/Integer" "java/lang/Object" ∈ lw_tbl := q3241
theorem arecv {G : Gl} {s : State} {H : AH} {Hc : Heap} {a ci : Nat} {C : String} {T : u_T} {N : Nat} (hG : GW G s) (hR : Rep G H Hc) (hk : kd H a = ci + 1) (hc : vwCl[ci]? = some (C, T, N)) : ∃ cell : Cell, Hc[a]? = some cell ∧ cell.vm.isStatics = false ∧ s.vm.findClass C = some cell.cls := by
  obtain ⟨ws, hP, hD, hcov⟩ := hR
  obtain ⟨j, hj⟩ := hcov.1 a (by omega)
  have hlt : ci < 28 := (List.getElem?_eq_some_iff.mp hc).1
  rw [cellOf_obj hk (by omega)] at hj
  exact va_recv hG.1 hP hc hj
theorem any_of {G : Gl} {s : State} {H : AH} {Hc : Heap} {locs : List Loc} {a : Nat} (hG : GW G s) (hSt : StatOK G s s.heap) (hR : Rep G H Hc) (hS : va_S (gBase G) s.heap Hc locs) (h : isObj G H a) : va_Any "java/lang/Object" s Hc a := by
  rcases h with ⟨h1, h2⟩ | ⟨k, hk, rfl⟩
  · have hx : kd H a = (kd H a - 1) + 1 := by omega
    have hlt : kd H a - 1 < vwCl.length := by show kd H a - 1 < 28; omega
    obtain ⟨⟨C, T, N⟩, hq⟩ : ∃ q, vwCl[kd H a - 1]? = some q := ⟨_, List.getElem?_eq_getElem hlt⟩
    obtain ⟨ws, hP, hD, hcov⟩ := hR
    obtain ⟨j, hj⟩ := hcov.1 a (by omega)
    rw [cellOf_obj hx (by omega)] at hj
    exact va_rAny hG.1 hP hj hq (vb_asgC (hG.2.2.1 _ (castO _ _ (by omega) hq) rfl))
  · obtain ⟨cell, g1, g2, g3, g4⟩ := hSt.2.2.2.2.1.1 k hk
    obtain ⟨kC, hkC, -⟩ := Vm.findClass_spec g3
    have hlt : gSt G (k + 10) < s.heap.size := (Array.getElem?_eq_some_iff.mp g1).1
    exact ⟨cell, by rw [hS.2.1 _ hlt g4]; exact g1, g2, ⟨kC, hkC⟩, fun comp hcomp => vb_asgC (hG.2.2.1 _ castI rfl) comp _ hcomp g3⟩
section R5
variable {M : MI} {G : Gl} {d : Nat} {Qr : Option AV → AH → Prop} {Qx : String → Nat → AH → Prop} {rc rs : Nat} {H : AH} {pc : Nat} {ls : List (Option AV)} {st : List AV}
theorem r_iald {a j9 n k9 : Nat} {i : Int32} {v9 : Int32} (hd : decode M.2.1 pc = .ok (.iaload, 1)) (hk : kd H a = k9) (hk9 : k9 / 1000 = 1) (hn : ln H a = n) (hi : i = nI j9) (hj : j9 < n) (hb : n < 2147483648) (hv : gA H k9 a j9 = v9) (k : AW M G d Qr Qx (rc) (rs) H (pc + 1) ls (vI v9 :: st)) : AW M G d Qr Qx (rc) (rs) H (pc) ls (vI i :: vR (some a) :: st) := by
  intro mc ms p e R s m args below meth c hC Hc locs arr cells slots hR hS hl ha hc hs
  obtain ⟨ws, hP, hD, hcov⟩ := hR
  obtain ⟨j, hj9⟩ := hcov.1 a (by intro q; rw [hk] at q; subst q; simp at hk9)
  rw [cellOf_int hk hk9 (by decide) (by decide)] at hj9
  obtain ⟨g1, g2⟩ := vp_in_of9 hi (by rw [hn]; exact hj : j9 < ln H a) (by rw [hn]; exact hb)
  subst hv
  refine va_iald (D := G.2.1) (tys := tysOf G.2.2.1) hC.1 hC.2.1 hC.2.2.2.2.2.2.2.2.2.2.2.1.1 hP j 0 hj9 rfl g1 hd ?_
  rw [g2]
  exact k mc ms p e R s m args below meth c hC Hc locs arr cells slots ⟨ws, hP, hD, hcov⟩ hS hl ha hc hs
theorem r_bald {a j9 n k9 : Nat} {i : Int32} {v9 : Int32} (hd : decode M.2.1 pc = .ok (.baload, 1)) (hk : kd H a = k9) (hk9 : k9 / 1000 = 2) (hn : ln H a = n) (hi : i = nI j9) (hj : j9 < n) (hb : n < 2147483648) (hv : gA H k9 a j9 = v9) (k : AW M G d Qr Qx (rc) (rs) H (pc + 1) ls (vI v9 :: st)) : AW M G d Qr Qx (rc) (rs) H (pc) ls (vI i :: vR (some a) :: st) := by
  intro mc ms p e R s m args below meth c hC Hc locs arr cells slots hR hS hl ha hc hs
  obtain ⟨ws, hP, hD, hcov⟩ := hR
  obtain ⟨j, hj9⟩ := hcov.1 a (by intro q; rw [hk] at q; subst q; simp at hk9)
  rw [cellOf_int hk hk9 (by decide) (by decide)] at hj9
  obtain ⟨g1, g2⟩ := vp_in_of9 hi (by rw [hn]; exact hj : j9 < ln H a) (by rw [hn]; exact hb)
  subst hv
  refine va_bald (D := G.2.1) (tys := tysOf G.2.2.1) hC.1 hC.2.1 hC.2.2.2.2.2.2.2.2.2.2.2.1.1 hP j 1 hj9 rfl g1 hd ?_
  rw [g2]
  exact k mc ms p e R s m args below meth c hC Hc locs arr cells slots ⟨ws, hP, hD, hcov⟩ hS hl ha hc hs
theorem r_zald {a j9 n k9 : Nat} {i : Int32} {v9 : Int32} (hd : decode M.2.1 pc = .ok (.baload, 1)) (hk : kd H a = k9) (hk9 : k9 / 1000 = 3) (hn : ln H a = n) (hi : i = nI j9) (hj : j9 < n) (hb : n < 2147483648) (hv : gA H k9 a j9 = v9) (k : AW M G d Qr Qx (rc) (rs) H (pc + 1) ls (vI v9 :: st)) : AW M G d Qr Qx (rc) (rs) H (pc) ls (vI i :: vR (some a) :: st) := by
  intro mc ms p e R s m args below meth c hC Hc locs arr cells slots hR hS hl ha hc hs
  obtain ⟨ws, hP, hD, hcov⟩ := hR
  obtain ⟨j, hj9⟩ := hcov.1 a (by intro q; rw [hk] at q; subst q; simp at hk9)
  rw [cellOf_int hk hk9 (by decide) (by decide)] at hj9
  obtain ⟨g1, g2⟩ := vp_in_of9 hi (by rw [hn]; exact hj : j9 < ln H a) (by rw [hn]; exact hb)
  subst hv
  refine va_zald (D := G.2.1) (tys := tysOf G.2.2.1) hC.1 hC.2.1 hC.2.2.2.2.2.2.2.2.2.2.2.1.1 hP j 2 hj9 rfl g1 hd ?_
  rw [g2]
  exact k mc ms p e R s m args below meth c hC Hc locs arr cells slots ⟨ws, hP, hD, hcov⟩ hS hl ha hc hs
theorem r_lald {a j9 n k9 : Nat} {i : Int32} {v9 : Int64} (hd : decode M.2.1 pc = .ok (.laload, 1)) (hk : kd H a = k9) (hk9 : k9 / 1000 = 6) (hn : ln H a = n) (hi : i = nI j9) (hj : j9 < n) (hb : n < 2147483648) (hv : gL H a j9 = v9) (k : AW M G d Qr Qx (rc) (rs) H (pc + 1) ls (vL v9 :: st)) : AW M G d Qr Qx (rc) (rs) H (pc) ls (vI i :: vR (some a) :: st) := by
  intro mc ms p e R s m args below meth c hC Hc locs arr cells slots hR hS hl ha hc hs
  obtain ⟨ws, hP, hD, hcov⟩ := hR
  obtain ⟨j, hj9⟩ := hcov.1 a (by intro q; rw [hk] at q; subst q; simp at hk9)
  rw [cellOf_long hk hk9] at hj9
  obtain ⟨g1, g2⟩ := vp_in_of9 hi (by rw [hn]; exact hj : j9 < ln H a) (by rw [hn]; exact hb)
  subst hv
  refine va_lald (D := G.2.1) (tys := tysOf G.2.2.1) hC.1 hC.2.1 hC.2.2.2.2.2.2.2.2.2.2.2.1.1 hP j 5 hj9 rfl g1 hd ?_
  rw [g2]
  exact k mc ms p e R s m args below meth c hC Hc locs arr cells slots ⟨ws, hP, hD, hcov⟩ hS hl ha hc hs
theorem r_dald {a j9 n k9 : Nat} {i : Int32} {v9 : UInt64} (hd : decode M.2.1 pc = .ok (.daload, 1)) (hk : kd H a = k9) (hk9 : k9 / 1000 = 7) (hn : ln H a = n) (hi : i = nI j9) (hj : j9 < n) (hb : n < 2147483648) (hv : gD H a j9 = v9) (k : AW M G d Qr Qx (rc) (rs) H (pc + 1) ls (vD v9 :: st)) : AW M G d Qr Qx (rc) (rs) H (pc) ls (vI i :: vR (some a) :: st) := by
  intro mc ms p e R s m args below meth c hC Hc locs arr cells slots hR hS hl ha hc hs
  obtain ⟨ws, hP, hD, hcov⟩ := hR
  obtain ⟨j, hj9⟩ := hcov.1 a (by intro q; rw [hk] at q; subst q; simp at hk9)
  rw [cellOf_dbl hk hk9] at hj9
  obtain ⟨g1, g2⟩ := vp_in_of9 hi (by rw [hn]; exact hj : j9 < ln H a) (by rw [hn]; exact hb)
  subst hv
  refine va_dald (D := G.2.1) (tys := tysOf G.2.2.1) hC.1 hC.2.1 hC.2.2.2.2.2.2.2.2.2.2.2.1.1 hP j 6 hj9 rfl g1 hd ?_
  rw [g2]
  exact k mc ms p e R s m args below meth c hC Hc locs arr cells slots ⟨ws, hP, hD, hcov⟩ hS hl ha hc hs
theorem r_qald {a j9 n k9 : Nat} {i : Int32} {v9 : Option Nat} (hd : decode M.2.1 pc = .ok (.aaload, 1)) (hk : kd H a = k9) (hk9 : k9 / 1000 = 4) (hn : ln H a = n) (hi : i = nI j9) (hj : j9 < n) (hb : n < 2147483648) (hv : gQ H k9 a j9 = v9) (k : AW M G d Qr Qx (rc) (rs) H (pc + 1) ls (vR v9 :: st)) : AW M G d Qr Qx (rc) (rs) H (pc) ls (vI i :: vR (some a) :: st) := by
  intro mc ms p e R s m args below meth c hC Hc locs arr cells slots hR hS hl ha hc hs
  obtain ⟨ws, hP, hD, hcov⟩ := hR
  obtain ⟨j, hj9⟩ := hcov.1 a (by intro q; rw [hk] at q; subst q; simp at hk9)
  rw [cellOf_ref hk hk9 (by decide) (by decide)] at hj9
  obtain ⟨g1, g2⟩ := vp_in_of9 hi (by rw [hn]; exact hj : j9 < ln H a) (by rw [hn]; exact hb)
  subst hv
  refine va_aldq (D := G.2.1) (tys := tysOf G.2.2.1) hC.1 hC.2.1 hC.2.2.2.2.2.2.2.2.2.2.2.1.1 hP j 3 hj9 rfl g1 hd ?_
  rw [g2]
  exact k mc ms p e R s m args below meth c hC Hc locs arr cells slots ⟨ws, hP, hD, hcov⟩ hS hl ha hc hs
theorem r_nald {a j9 n k9 : Nat} {i : Int32} {v9 : Option Nat} (hd : decode M.2.1 pc = .ok (.aaload, 1)) (hk : kd H a = k9) (hk9 : k9 / 1000 = 5) (hn : ln H a = n) (hi : i = nI j9) (hj : j9 < n) (hb : n < 2147483648) (hv : gQ H k9 a j9 = v9) (k : AW M G d Qr Qx (rc) (rs) H (pc + 1) ls (vR v9 :: st)) : AW M G d Qr Qx (rc) (rs) H (pc) ls (vI i :: vR (some a) :: st) := by
  intro mc ms p e R s m args below meth c hC Hc locs arr cells slots hR hS hl ha hc hs
  obtain ⟨ws, hP, hD, hcov⟩ := hR
  obtain ⟨j, hj9⟩ := hcov.1 a (by intro q; rw [hk] at q; subst q; simp at hk9)
  rw [cellOf_ref hk hk9 (by decide) (by decide)] at hj9
  obtain ⟨g1, g2⟩ := vp_in_of9 hi (by rw [hn]; exact hj : j9 < ln H a) (by rw [hn]; exact hb)
  subst hv
  refine va_aldq (D := G.2.1) (tys := tysOf G.2.2.1) hC.1 hC.2.1 hC.2.2.2.2.2.2.2.2.2.2.2.1.1 hP j 4 hj9 rfl g1 hd ?_
  rw [g2]
  exact k mc ms p e R s m args below meth c hC Hc locs arr cells slots ⟨ws, hP, hD, hcov⟩ hS hl ha hc hs
theorem r_iast {a j9 n k9 : Nat} {i : Int32} {x : Int32} (hd : decode M.2.1 pc = .ok (.iastore, 1)) (hk : kd H a = k9) (hk9 : k9 / 1000 = 1) (hn : ln H a = n) (hi : i = nI j9) (hj : j9 < n) (hb : n < 2147483648) (k : AW M G d Qr Qx (rc) (rs) (sA H k9 a (upd (gA H k9 a) j9 x)) (pc + 1) ls (st)) : AW M G d Qr Qx (rc) (rs) H (pc) ls (vI x :: vI i :: vR (some a) :: st) := by
  intro mc ms p e R s m args below meth c hC Hc locs arr cells slots hR hS hl ha hc hs
  refine mp_wrap hC hS hc hs (fun s9 R9 hC9 hs9 K => ?_)
  have hS9 : va_S (gBase G) s9.heap Hc [] := by rw [hs9]; exact va_S.rf
  obtain ⟨ws, hP, hD, hcov⟩ := hR
  obtain ⟨j, hj9⟩ := hcov.1 a (by intro q; rw [hk] at q; subst q; simp at hk9)
  rw [cellOf_int hk hk9 (by decide) (by decide)] at hj9
  obtain ⟨g1, g2⟩ := vp_in_of9 hi (by rw [hn]; exact hj : j9 < ln H a) (by rw [hn]; exact hb)
  refine va_iast (D := G.2.1) (tys := tysOf G.2.2.1) hC9.1 hC9.2.1 hC9.2.2.2.2.2.2.2.2.2.2.2.1.1 hP hD hS9 j 0 hj9 rfl g1 hd (fun H1 locs1 q1 q2 q3 => ?_)
  rw [g2] at q1 q2
  refine K H1 locs1 _ _ _ q3 (fun hm hS1 => k mc ms p e R s m args below meth c hC H1 _ arr _ _ ⟨_, q1, q2, cover_set hcov.1 hj9 (fun _ => ?_) (fun b hb9 hkb => ⟨hkb, oth_sA hb9⟩), hcov.2.setA hm hj9⟩ hS1 hl ha (by omega) (by omega))
  rw [cellOf_int (k := k9) (by exact hk) hk9 (by decide) (by decide), gA_sAs, ln_sA]
theorem r_bast {a j9 n k9 : Nat} {i : Int32} {x : Int32} (hd : decode M.2.1 pc = .ok (.bastore, 1)) (hk : kd H a = k9) (hk9 : k9 / 1000 = 2) (hn : ln H a = n) (hi : i = nI j9) (hj : j9 < n) (hb : n < 2147483648) (k : AW M G d Qr Qx (rc) (rs) (sA H k9 a (upd (gA H k9 a) j9 (vp_nar .byte x))) (pc + 1) ls (st)) : AW M G d Qr Qx (rc) (rs) H (pc) ls (vI x :: vI i :: vR (some a) :: st) := by
  intro mc ms p e R s m args below meth c hC Hc locs arr cells slots hR hS hl ha hc hs
  refine mp_wrap hC hS hc hs (fun s9 R9 hC9 hs9 K => ?_)
  have hS9 : va_S (gBase G) s9.heap Hc [] := by rw [hs9]; exact va_S.rf
  obtain ⟨ws, hP, hD, hcov⟩ := hR
  obtain ⟨j, hj9⟩ := hcov.1 a (by intro q; rw [hk] at q; subst q; simp at hk9)
  rw [cellOf_int hk hk9 (by decide) (by decide)] at hj9
  obtain ⟨g1, g2⟩ := vp_in_of9 hi (by rw [hn]; exact hj : j9 < ln H a) (by rw [hn]; exact hb)
  refine va_bast (D := G.2.1) (tys := tysOf G.2.2.1) hC9.1 hC9.2.1 hC9.2.2.2.2.2.2.2.2.2.2.2.1.1 hP hD hS9 j 1 hj9 rfl g1 hd (fun H1 locs1 q1 q2 q3 => ?_)
  rw [g2] at q1 q2
  refine K H1 locs1 _ _ _ q3 (fun hm hS1 => k mc ms p e R s m args below meth c hC H1 _ arr _ _ ⟨_, q1, q2, cover_set hcov.1 hj9 (fun _ => ?_) (fun b hb9 hkb => ⟨hkb, oth_sA hb9⟩), hcov.2.setA hm hj9⟩ hS1 hl ha (by omega) (by omega))
  rw [cellOf_int (k := k9) (by exact hk) hk9 (by decide) (by decide), gA_sAs, ln_sA]
theorem r_zast {a j9 n k9 : Nat} {i : Int32} {x : Int32} (hd : decode M.2.1 pc = .ok (.bastore, 1)) (hk : kd H a = k9) (hk9 : k9 / 1000 = 3) (hn : ln H a = n) (hi : i = nI j9) (hj : j9 < n) (hb : n < 2147483648) (k : AW M G d Qr Qx (rc) (rs) (sA H k9 a (upd (gA H k9 a) j9 (vp_nar .boolean x))) (pc + 1) ls (st)) : AW M G d Qr Qx (rc) (rs) H (pc) ls (vI x :: vI i :: vR (some a) :: st) := by
  intro mc ms p e R s m args below meth c hC Hc locs arr cells slots hR hS hl ha hc hs
  refine mp_wrap hC hS hc hs (fun s9 R9 hC9 hs9 K => ?_)
  have hS9 : va_S (gBase G) s9.heap Hc [] := by rw [hs9]; exact va_S.rf
  obtain ⟨ws, hP, hD, hcov⟩ := hR
  obtain ⟨j, hj9⟩ := hcov.1 a (by intro q; rw [hk] at q; subst q; simp at hk9)
  rw [cellOf_int hk hk9 (by decide) (by decide)] at hj9
  obtain ⟨g1, g2⟩ := vp_in_of9 hi (by rw [hn]; exact hj : j9 < ln H a) (by rw [hn]; exact hb)
  refine va_zast (D := G.2.1) (tys := tysOf G.2.2.1) hC9.1 hC9.2.1 hC9.2.2.2.2.2.2.2.2.2.2.2.1.1 hP hD hS9 j 2 hj9 rfl g1 hd (fun H1 locs1 q1 q2 q3 => ?_)
  rw [g2] at q1 q2
  refine K H1 locs1 _ _ _ q3 (fun hm hS1 => k mc ms p e R s m args below meth c hC H1 _ arr _ _ ⟨_, q1, q2, cover_set hcov.1 hj9 (fun _ => ?_) (fun b hb9 hkb => ⟨hkb, oth_sA hb9⟩), hcov.2.setA hm hj9⟩ hS1 hl ha (by omega) (by omega))
  rw [cellOf_int (k := k9) (by exact hk) hk9 (by decide) (by decide), gA_sAs, ln_sA]
theorem r_last {a j9 n k9 : Nat} {i : Int32} {x : Int64} (hd : decode M.2.1 pc = .ok (.lastore, 1)) (hk : kd H a = k9) (hk9 : k9 / 1000 = 6) (hn : ln H a = n) (hi : i = nI j9) (hj : j9 < n) (hb : n < 2147483648) (k : AW M G d Qr Qx (rc) (rs) (sL H a (vp_updL (gL H a) j9 x)) (pc + 1) ls (st)) : AW M G d Qr Qx (rc) (rs) H (pc) ls (vL x :: vI i :: vR (some a) :: st) := by
  intro mc ms p e R s m args below meth c hC Hc locs arr cells slots hR hS hl ha hc hs
  refine mp_wrap hC hS hc hs (fun s9 R9 hC9 hs9 K => ?_)
  have hS9 : va_S (gBase G) s9.heap Hc [] := by rw [hs9]; exact va_S.rf
  obtain ⟨ws, hP, hD, hcov⟩ := hR
  obtain ⟨j, hj9⟩ := hcov.1 a (by intro q; rw [hk] at q; subst q; simp at hk9)
  rw [cellOf_long hk hk9] at hj9
  obtain ⟨g1, g2⟩ := vp_in_of9 hi (by rw [hn]; exact hj : j9 < ln H a) (by rw [hn]; exact hb)
  refine va_last (D := G.2.1) (tys := tysOf G.2.2.1) hC9.1 hC9.2.1 hC9.2.2.2.2.2.2.2.2.2.2.2.1.1 hP hD hS9 j 5 hj9 rfl g1 hd (fun H1 locs1 q1 q2 q3 => ?_)
  rw [g2] at q1 q2
  refine K H1 locs1 _ _ _ q3 (fun hm hS1 => k mc ms p e R s m args below meth c hC H1 _ arr _ _ ⟨_, q1, q2, cover_set hcov.1 hj9 (fun _ => ?_) (fun b hb9 hkb => ⟨hkb, oth_sL hb9⟩), hcov.2.setA hm hj9⟩ hS1 hl ha (by omega) (by omega))
  rw [cellOf_long (k := k9) (by exact hk) hk9, gL_sLs, ln_sL]
theorem r_dast {a j9 n k9 : Nat} {i : Int32} {x : UInt64} (hd : decode M.2.1 pc = .ok (.dastore, 1)) (hk : kd H a = k9) (hk9 : k9 / 1000 = 7) (hn : ln H a = n) (hi : i = nI j9) (hj : j9 < n) (hb : n < 2147483648) (k : AW M G d Qr Qx (rc) (rs) (sD H a (vf_upd (gD H a) j9 x)) (pc + 1) ls (st)) : AW M G d Qr Qx (rc) (rs) H (pc) ls (vD x :: vI i :: vR (some a) :: st) := by
  intro mc ms p e R s m args below meth c hC Hc locs arr cells slots hR hS hl ha hc hs
  refine mp_wrap hC hS hc hs (fun s9 R9 hC9 hs9 K => ?_)
  have hS9 : va_S (gBase G) s9.heap Hc [] := by rw [hs9]; exact va_S.rf
  obtain ⟨ws, hP, hD, hcov⟩ := hR
  obtain ⟨j, hj9⟩ := hcov.1 a (by intro q; rw [hk] at q; subst q; simp at hk9)
  rw [cellOf_dbl hk hk9] at hj9
  obtain ⟨g1, g2⟩ := vp_in_of9 hi (by rw [hn]; exact hj : j9 < ln H a) (by rw [hn]; exact hb)
  refine va_dast (D := G.2.1) (tys := tysOf G.2.2.1) hC9.1 hC9.2.1 hC9.2.2.2.2.2.2.2.2.2.2.2.1.1 hP hD hS9 j 6 hj9 rfl g1 hd (fun H1 locs1 q1 q2 q3 => ?_)
  rw [g2] at q1 q2
  refine K H1 locs1 _ _ _ q3 (fun hm hS1 => k mc ms p e R s m args below meth c hC H1 _ arr _ _ ⟨_, q1, q2, cover_set hcov.1 hj9 (fun _ => ?_) (fun b hb9 hkb => ⟨hkb, oth_sD hb9⟩), hcov.2.setA hm hj9⟩ hS1 hl ha (by omega) (by omega))
  rw [cellOf_dbl (k := k9) (by exact hk) hk9, gD_sDs, ln_sD]
theorem r_qast {a j9 n k9 : Nat} {i : Int32} {x : Option Nat} (hd : decode M.2.1 pc = .ok (.aastore, 1)) (hk : kd H a = k9) (hk9 : k9 / 1000 = 4) (hn : ln H a = n) (hi : i = nI j9) (hj : j9 < n) (hb : n < 2147483648) (hx : ∀ b, x = some b → isObj G H b) (k : AW M G d Qr Qx (rc) (rs) (sQ H k9 a (va_up (gQ H k9 a) j9 x)) (pc + 1) ls (st)) : AW M G d Qr Qx (rc) (rs) H (pc) ls (vR x :: vI i :: vR (some a) :: st) := by
  intro mc ms p e R s m args below meth c hC Hc locs arr cells slots hR hS hl ha hc hs
  refine mp_wrap hC hS hc hs (fun s9 R9 hC9 hs9 K => ?_)
  have hS9 : va_S (gBase G) s9.heap Hc [] := by rw [hs9]; exact va_S.rf
  have hR0 := hR
  obtain ⟨ws, hP, hD, hcov⟩ := hR
  obtain ⟨j, hj9⟩ := hcov.1 a (by intro q; rw [hk] at q; subst q; simp at hk9)
  rw [cellOf_ref hk hk9 (by decide) (by decide)] at hj9
  obtain ⟨g1, g2⟩ := vp_in_of9 hi (by rw [hn]; exact hj : j9 < ln H a) (by rw [hn]; exact hb)
  have fin : ∀ (H1 : Heap) (locs1 : List Loc), va_P G.2.1 vwCl (ws.set j (a, .inl (G.2.2.1 4, ln H a, .inr (.inr (.inr (.inr (va_up (gQ H k9 a) i.toNatClampNeg x))))))) H1 → va_D (gBase G) (ws.set j (a, .inl (G.2.2.1 4, ln H a, .inr (.inr (.inr (.inr (va_up (gQ H k9 a) i.toNatClampNeg x))))))) → va_S (gBase G) s9.heap H1 locs1 → W p G.1 e R9 s9 m args below meth c H1 locs1 0 0 (vx_MQ below (QcOf G Qr) (XCOf G Qx) args s mc ms (gBase G)) (F0 m (pc + 1) arr (st.map tV)) := by
    intro H1 locs1 q1 q2 q3
    rw [g2] at q1 q2
    refine K H1 locs1 _ _ _ q3 (fun hm hS1 => k mc ms p e R s m args below meth c hC H1 _ arr _ _ ⟨_, q1, q2, cover_set hcov.1 hj9 (fun _ => ?_) (fun b hb9 hkb => ⟨hkb, oth_sQ hb9⟩), hcov.2.setA hm hj9⟩ hS1 hl ha (by omega) (by omega))
    rw [cellOf_ref (k := k9) (by exact hk) hk9 (by decide) (by decide), gQ_sQs, ln_sQ]
  cases x with
  | none => exact va_astqN (D := G.2.1) (tys := tysOf G.2.2.1) hC9.1 hC9.2.1 hC9.2.2.2.2.2.2.2.2.2.2.2.1.1 hP hD hS9 j 3 hj9 rfl g1 hd fin
  | some b => exact va_astqM (D := G.2.1) (tys := tysOf G.2.2.1) (E := "java/lang/Object") hC9.1 hC9.2.1 hC9.2.2.2.2.2.2.2.2.2.2.2.1.1 hP hD hS9 j 3 hj9 rfl (any_of hC9.2.2.2.2.2.2.2.2.2.2.2.1 hC9.2.2.2.2.2.2.2.2.2.2.2.2.1 hR0 hS9 (hx b rfl)) g1 hd fin
theorem r_nast {a j9 n k9 : Nat} {i : Int32} {x : Option Nat} (hd : decode M.2.1 pc = .ok (.aastore, 1)) (hk : kd H a = k9) (hk9 : k9 / 1000 = 5) (hn : ln H a = n) (hi : i = nI j9) (hj : j9 < n) (hb : n < 2147483648) (hx : ∀ b, x = some b → kd H b = 27) (k : AW M G d Qr Qx (rc) (rs) (sQ H k9 a (va_up (gQ H k9 a) j9 x)) (pc + 1) ls (st)) : AW M G d Qr Qx (rc) (rs) H (pc) ls (vR x :: vI i :: vR (some a) :: st) := by
  intro mc ms p e R s m args below meth c hC Hc locs arr cells slots hR hS hl ha hc hs
  refine mp_wrap hC hS hc hs (fun s9 R9 hC9 hs9 K => ?_)
  have hS9 : va_S (gBase G) s9.heap Hc [] := by rw [hs9]; exact va_S.rf
  have hR0 := hR
  obtain ⟨ws, hP, hD, hcov⟩ := hR
  obtain ⟨j, hj9⟩ := hcov.1 a (by intro q; rw [hk] at q; subst q; simp at hk9)
  rw [cellOf_ref hk hk9 (by decide) (by decide)] at hj9
  obtain ⟨g1, g2⟩ := vp_in_of9 hi (by rw [hn]; exact hj : j9 < ln H a) (by rw [hn]; exact hb)
  have fin : ∀ (H1 : Heap) (locs1 : List Loc), va_P G.2.1 vwCl (ws.set j (a, .inl (G.2.2.1 5, ln H a, .inr (.inr (.inr (.inr (va_up (gQ H k9 a) i.toNatClampNeg x))))))) H1 → va_D (gBase G) (ws.set j (a, .inl (G.2.2.1 5, ln H a, .inr (.inr (.inr (.inr (va_up (gQ H k9 a) i.toNatClampNeg x))))))) → va_S (gBase G) s9.heap H1 locs1 → W p G.1 e R9 s9 m args below meth c H1 locs1 0 0 (vx_MQ below (QcOf G Qr) (XCOf G Qx) args s mc ms (gBase G)) (F0 m (pc + 1) arr (st.map tV)) := by
    intro H1 locs1 q1 q2 q3
    rw [g2] at q1 q2
    refine K H1 locs1 _ _ _ q3 (fun hm hS1 => k mc ms p e R s m args below meth c hC H1 _ arr _ _ ⟨_, q1, q2, cover_set hcov.1 hj9 (fun _ => ?_) (fun b hb9 hkb => ⟨hkb, oth_sQ hb9⟩), hcov.2.setA hm hj9⟩ hS1 hl ha (by omega) (by omega))
    rw [cellOf_ref (k := k9) (by exact hk) hk9 (by decide) (by decide), gQ_sQs, ln_sQ]
  cases x with
  | none => exact va_astqN (D := G.2.1) (tys := tysOf G.2.2.1) hC9.1 hC9.2.1 hC9.2.2.2.2.2.2.2.2.2.2.2.1.1 hP hD hS9 j 4 hj9 rfl g1 hd fin
  | some b => exact (by
    obtain ⟨jb, hjb⟩ := hcov.1 b (by rw [hx b rfl]; decide)
    rw [cellOf_obj (ci := 26) (hx b rfl) (by decide)] at hjb
    exact va_astq (D := G.2.1) (tys := tysOf G.2.2.1) hC9.1 hC9.2.1 hC9.2.2.2.2.2.2.2.2.2.2.2.1.1 hP hD hS9 j 4 jb 26 (r := (RJ24, TJ24, 4)) hj9 rfl hjb rfl g1 hd fin)
theorem r_alen {a n : Nat} (hd : decode M.2.1 pc = .ok (.arraylength, 1)) (hk : 1000 ≤ kd H a ∧ kd H a < 8000) (hn : ln H a = n) (k : AW M G d Qr Qx (rc) (rs) H (pc + 1) ls (vI (nI n) :: st)) : AW M G d Qr Qx (rc) (rs) H (pc) ls (vR (some a) :: st) := by
  intro mc ms p e R s m args below meth c hC Hc locs arr cells slots hR hS hl ha hc hs
  subst hn
  have hR0 := hR
  obtain ⟨ws, hP, hD, hcov⟩ := hR
  obtain ⟨j, hj9⟩ := hcov.1 a (by omega)
  have kk : W p G.1 e R s m args below meth c Hc locs cells slots (vx_MQ below (QcOf G Qr) (XCOf G Qx) args s mc ms (gBase G)) (F0 m (pc + 1) arr (.int (Int32.ofNat (ln H a)) :: st.map tV)) := k mc ms p e R s m args below meth c hC Hc locs arr cells slots hR0 hS hl ha hc hs
  by_cases h4 : kd H a < 4000
  · obtain ⟨t, ht⟩ : ∃ t, t = kd H a / 1000 := ⟨_, rfl⟩
    rw [cellOf_int rfl ht.symm (by omega) (by omega)] at hj9
    rcases (show t = 1 ∨ t = 2 ∨ t = 3 by omega) with rfl | rfl | rfl
    · exact va_alen (D := G.2.1) (tys := tysOf G.2.2.1) hC.1 hC.2.1 hC.2.2.2.2.2.2.2.2.2.2.2.1.1 hP j 0 hj9 rfl rfl hd kk
    · exact va_alen (D := G.2.1) (tys := tysOf G.2.2.1) hC.1 hC.2.1 hC.2.2.2.2.2.2.2.2.2.2.2.1.1 hP j 1 hj9 rfl rfl hd kk
    · exact va_alen (D := G.2.1) (tys := tysOf G.2.2.1) hC.1 hC.2.1 hC.2.2.2.2.2.2.2.2.2.2.2.1.1 hP j 2 hj9 rfl rfl hd kk
  · by_cases h6 : kd H a < 6000
    · obtain ⟨t, ht⟩ : ∃ t, t = kd H a / 1000 := ⟨_, rfl⟩
      rw [cellOf_ref rfl ht.symm (by omega) (by omega)] at hj9
      rcases (show t = 4 ∨ t = 5 by omega) with rfl | rfl
      · exact va_alen (D := G.2.1) (tys := tysOf G.2.2.1) hC.1 hC.2.1 hC.2.2.2.2.2.2.2.2.2.2.2.1.1 hP j 3 hj9 rfl rfl hd kk
      · exact va_alen (D := G.2.1) (tys := tysOf G.2.2.1) hC.1 hC.2.1 hC.2.2.2.2.2.2.2.2.2.2.2.1.1 hP j 4 hj9 rfl rfl hd kk
    · by_cases h7 : kd H a < 7000
      · rw [cellOf_long rfl (by omega)] at hj9
        exact va_alen (D := G.2.1) (tys := tysOf G.2.2.1) hC.1 hC.2.1 hC.2.2.2.2.2.2.2.2.2.2.2.1.1 hP j 5 hj9 rfl rfl hd kk
      · rw [cellOf_dbl rfl (by omega)] at hj9
        exact va_alen (D := G.2.1) (tys := tysOf G.2.2.1) hC.1 hC.2.1 hC.2.2.2.2.2.2.2.2.2.2.2.1.1 hP j 6 hj9 rfl rfl hd kk
theorem r_new_int {n : Nat} {i : Int32} (k9 : Nat) (hd : decode M.2.1 pc = .ok (.newarray .int, 2)) (hw : Cond.arrayClass (newarray.typeOf .int) ∈ lw_all) (hk9 : k9 / 1000 = 1) (hi : i = nI n) (hn : n ≤ 65536) (hc1 : 1 ≤ rc) (hs1 : n ≤ rs) (k : ∀ q, kd H q = 0 → AW M G d Qr Qx (rc - 1) (rs - n) (nA H q k9 n) (pc + 2) ls (vR (some q) :: st)) : AW M G d Qr Qx (rc) (rs) H (pc) ls (vI i :: st) := by
  intro mc ms p e R s m args below meth c hC Hc locs arr cells slots hR hS hl ha hc hs
  refine mp_wrap hC hS hc hs (fun s9 R9 hC9 hs9 K => ?_)
  have hS9 : va_S (gBase G) s9.heap Hc [] := by rw [hs9]; exact va_S.rf
  have hroom := hC9.2.2.2.2.2.2.2.2.2
  obtain ⟨ws, hP, hD, hcov⟩ := hR
  subst hi
  refine va_newa (D := G.2.1) (tys := tysOf G.2.2.1) (ty := .int) (N' := n) (a0 := (n, (.inl (fun _ => 0)))) hC9.1 hC9.2.1 (hC9.2.2.2.2.2.2.2.2.2.2.2.1.2.1 _ hw _) rfl hC9.2.2.2.2.2.2.2.2.2.2.2.1.1 hP hD hS9 (fun q h => Nat.le_trans hC9.2.2.2.2.2.2.2.2.2.2.2.2.2.1 h) (fun cA => rfl) (nI_pos (by omega)) (nI_clamp (by omega)) (by show n * 4 ≤ 536870912; omega) (by rw [hroom.1]; omega) (by rw [hroom.2.1]; omega) hd (fun q cA H1 g0 g1 g2 g3 => ?_)
  have e1 : s9.vm.findClass ("[" ++ (.int : FieldType).toString) = some cA := (g0.2 7 _ rfl).2
  have e2 : s9.vm.findClass ("[" ++ (.int : FieldType).toString) = some (G.2.2.1 1) := (hC9.2.2.2.2.2.2.2.2.2.2.2.1.1.2 0 _ rfl).2
  cases Option.some.inj (e1.symm.trans e2)
  have hfr := fresh_of hcov.1 g2
  refine K H1 [] _ _ _ g3 (fun hm hS1 => k q hfr mc ms p e R s m args below meth c hC H1 _ arr _ _ ⟨_, g1, g2, cover_push hcov.1 (fun _ => ?_) (fun b hb hkb => ⟨?_, oth_nA hb⟩), hcov.2.pushA hm⟩ hS1 hl ha (by omega) (by omega))
  · rw [cellOf_int (k := k9) (by rw [kd_nA, if_pos rfl]) hk9 (by decide) (by decide), ln_nA, if_pos rfl, gA_nA, if_pos ⟨rfl, rfl⟩]
  · rw [kd_nA, if_neg hb] at hkb
    exact hkb
theorem r_new_byte {n : Nat} {i : Int32} (k9 : Nat) (hd : decode M.2.1 pc = .ok (.newarray .byte, 2)) (hw : Cond.arrayClass (newarray.typeOf .byte) ∈ lw_all) (hk9 : k9 / 1000 = 2) (hi : i = nI n) (hn : n ≤ 65536) (hc1 : 1 ≤ rc) (hs1 : n ≤ rs) (k : ∀ q, kd H q = 0 → AW M G d Qr Qx (rc - 1) (rs - n) (nA H q k9 n) (pc + 2) ls (vR (some q) :: st)) : AW M G d Qr Qx (rc) (rs) H (pc) ls (vI i :: st) := by
  intro mc ms p e R s m args below meth c hC Hc locs arr cells slots hR hS hl ha hc hs
  refine mp_wrap hC hS hc hs (fun s9 R9 hC9 hs9 K => ?_)
  have hS9 : va_S (gBase G) s9.heap Hc [] := by rw [hs9]; exact va_S.rf
  have hroom := hC9.2.2.2.2.2.2.2.2.2
  obtain ⟨ws, hP, hD, hcov⟩ := hR
  subst hi
  refine va_newa (D := G.2.1) (tys := tysOf G.2.2.1) (ty := .byte) (N' := n) (a0 := (n, (.inl (fun _ => 0)))) hC9.1 hC9.2.1 (hC9.2.2.2.2.2.2.2.2.2.2.2.1.2.1 _ hw _) rfl hC9.2.2.2.2.2.2.2.2.2.2.2.1.1 hP hD hS9 (fun q h => Nat.le_trans hC9.2.2.2.2.2.2.2.2.2.2.2.2.2.1 h) (fun cA => rfl) (nI_pos (by omega)) (nI_clamp (by omega)) (by show n * 1 ≤ 536870912; omega) (by rw [hroom.1]; omega) (by rw [hroom.2.1]; omega) hd (fun q cA H1 g0 g1 g2 g3 => ?_)
  have e1 : s9.vm.findClass ("[" ++ (.byte : FieldType).toString) = some cA := (g0.2 7 _ rfl).2
  have e2 : s9.vm.findClass ("[" ++ (.byte : FieldType).toString) = some (G.2.2.1 2) := (hC9.2.2.2.2.2.2.2.2.2.2.2.1.1.2 1 _ rfl).2
  cases Option.some.inj (e1.symm.trans e2)
  have hfr := fresh_of hcov.1 g2
  refine K H1 [] _ _ _ g3 (fun hm hS1 => k q hfr mc ms p e R s m args below meth c hC H1 _ arr _ _ ⟨_, g1, g2, cover_push hcov.1 (fun _ => ?_) (fun b hb hkb => ⟨?_, oth_nA hb⟩), hcov.2.pushA hm⟩ hS1 hl ha (by omega) (by omega))
  · rw [cellOf_int (k := k9) (by rw [kd_nA, if_pos rfl]) hk9 (by decide) (by decide), ln_nA, if_pos rfl, gA_nA, if_pos ⟨rfl, rfl⟩]
  · rw [kd_nA, if_neg hb] at hkb
    exact hkb
theorem r_new_bool {n : Nat} {i : Int32} (k9 : Nat) (hd : decode M.2.1 pc = .ok (.newarray .boolean, 2)) (hw : Cond.arrayClass (newarray.typeOf .boolean) ∈ lw_all) (hk9 : k9 / 1000 = 3) (hi : i = nI n) (hn : n ≤ 65536) (hc1 : 1 ≤ rc) (hs1 : n ≤ rs) (k : ∀ q, kd H q = 0 → AW M G d Qr Qx (rc - 1) (rs - n) (nA H q k9 n) (pc + 2) ls (vR (some q) :: st)) : AW M G d Qr Qx (rc) (rs) H (pc) ls (vI i :: st) := by
  intro mc ms p e R s m args below meth c hC Hc locs arr cells slots hR hS hl ha hc hs
  refine mp_wrap hC hS hc hs (fun s9 R9 hC9 hs9 K => ?_)
  have hS9 : va_S (gBase G) s9.heap Hc [] := by rw [hs9]; exact va_S.rf
  have hroom := hC9.2.2.2.2.2.2.2.2.2
  obtain ⟨ws, hP, hD, hcov⟩ := hR
  subst hi
  refine va_newa (D := G.2.1) (tys := tysOf G.2.2.1) (ty := .boolean) (N' := n) (a0 := (n, (.inl (fun _ => 0)))) hC9.1 hC9.2.1 (hC9.2.2.2.2.2.2.2.2.2.2.2.1.2.1 _ hw _) rfl hC9.2.2.2.2.2.2.2.2.2.2.2.1.1 hP hD hS9 (fun q h => Nat.le_trans hC9.2.2.2.2.2.2.2.2.2.2.2.2.2.1 h) (fun cA => rfl) (nI_pos (by omega)) (nI_clamp (by omega)) (by show n * 1 ≤ 536870912; omega) (by rw [hroom.1]; omega) (by rw [hroom.2.1]; omega) hd (fun q cA H1 g0 g1 g2 g3 => ?_)
  have e1 : s9.vm.findClass ("[" ++ (.boolean : FieldType).toString) = some cA := (g0.2 7 _ rfl).2
  have e2 : s9.vm.findClass ("[" ++ (.boolean : FieldType).toString) = some (G.2.2.1 3) := (hC9.2.2.2.2.2.2.2.2.2.2.2.1.1.2 2 _ rfl).2
  cases Option.some.inj (e1.symm.trans e2)
  have hfr := fresh_of hcov.1 g2
  refine K H1 [] _ _ _ g3 (fun hm hS1 => k q hfr mc ms p e R s m args below meth c hC H1 _ arr _ _ ⟨_, g1, g2, cover_push hcov.1 (fun _ => ?_) (fun b hb hkb => ⟨?_, oth_nA hb⟩), hcov.2.pushA hm⟩ hS1 hl ha (by omega) (by omega))
  · rw [cellOf_int (k := k9) (by rw [kd_nA, if_pos rfl]) hk9 (by decide) (by decide), ln_nA, if_pos rfl, gA_nA, if_pos ⟨rfl, rfl⟩]
  · rw [kd_nA, if_neg hb] at hkb
    exact hkb
theorem r_new_long {n : Nat} {i : Int32} (k9 : Nat) (hd : decode M.2.1 pc = .ok (.newarray .long, 2)) (hw : Cond.arrayClass (newarray.typeOf .long) ∈ lw_all) (hk9 : k9 / 1000 = 6) (hi : i = nI n) (hn : n ≤ 65536) (hc1 : 1 ≤ rc) (hs1 : n ≤ rs) (k : ∀ q, kd H q = 0 → AW M G d Qr Qx (rc - 1) (rs - n) (nA H q k9 n) (pc + 2) ls (vR (some q) :: st)) : AW M G d Qr Qx (rc) (rs) H (pc) ls (vI i :: st) := by
  intro mc ms p e R s m args below meth c hC Hc locs arr cells slots hR hS hl ha hc hs
  refine mp_wrap hC hS hc hs (fun s9 R9 hC9 hs9 K => ?_)
  have hS9 : va_S (gBase G) s9.heap Hc [] := by rw [hs9]; exact va_S.rf
  have hroom := hC9.2.2.2.2.2.2.2.2.2
  obtain ⟨ws, hP, hD, hcov⟩ := hR
  subst hi
  refine va_newa (D := G.2.1) (tys := tysOf G.2.2.1) (ty := .long) (N' := n) (a0 := (n, (.inr (.inl (fun _ => 0))))) hC9.1 hC9.2.1 (hC9.2.2.2.2.2.2.2.2.2.2.2.1.2.1 _ hw _) rfl hC9.2.2.2.2.2.2.2.2.2.2.2.1.1 hP hD hS9 (fun q h => Nat.le_trans hC9.2.2.2.2.2.2.2.2.2.2.2.2.2.1 h) (fun cA => rfl) (nI_pos (by omega)) (nI_clamp (by omega)) (by show n * 8 ≤ 536870912; omega) (by rw [hroom.1]; omega) (by rw [hroom.2.1]; omega) hd (fun q cA H1 g0 g1 g2 g3 => ?_)
  have e1 : s9.vm.findClass ("[" ++ (.long : FieldType).toString) = some cA := (g0.2 7 _ rfl).2
  have e2 : s9.vm.findClass ("[" ++ (.long : FieldType).toString) = some (G.2.2.1 6) := (hC9.2.2.2.2.2.2.2.2.2.2.2.1.1.2 5 _ rfl).2
  cases Option.some.inj (e1.symm.trans e2)
  have hfr := fresh_of hcov.1 g2
  refine K H1 [] _ _ _ g3 (fun hm hS1 => k q hfr mc ms p e R s m args below meth c hC H1 _ arr _ _ ⟨_, g1, g2, cover_push hcov.1 (fun _ => ?_) (fun b hb hkb => ⟨?_, oth_nA hb⟩), hcov.2.pushA hm⟩ hS1 hl ha (by omega) (by omega))
  · rw [cellOf_long (k := k9) (by rw [kd_nA, if_pos rfl]) hk9, ln_nA, if_pos rfl, gL_nA, if_pos rfl]
  · rw [kd_nA, if_neg hb] at hkb
    exact hkb
theorem r_new_dbl {n : Nat} {i : Int32} (k9 : Nat) (hd : decode M.2.1 pc = .ok (.newarray .double, 2)) (hw : Cond.arrayClass (newarray.typeOf .double) ∈ lw_all) (hk9 : k9 / 1000 = 7) (hi : i = nI n) (hn : n ≤ 65536) (hc1 : 1 ≤ rc) (hs1 : n ≤ rs) (k : ∀ q, kd H q = 0 → AW M G d Qr Qx (rc - 1) (rs - n) (nA H q k9 n) (pc + 2) ls (vR (some q) :: st)) : AW M G d Qr Qx (rc) (rs) H (pc) ls (vI i :: st) := by
  intro mc ms p e R s m args below meth c hC Hc locs arr cells slots hR hS hl ha hc hs
  refine mp_wrap hC hS hc hs (fun s9 R9 hC9 hs9 K => ?_)
  have hS9 : va_S (gBase G) s9.heap Hc [] := by rw [hs9]; exact va_S.rf
  have hroom := hC9.2.2.2.2.2.2.2.2.2
  obtain ⟨ws, hP, hD, hcov⟩ := hR
  subst hi
  refine va_newa (D := G.2.1) (tys := tysOf G.2.2.1) (ty := .double) (N' := n) (a0 := (n, (.inr (.inr (.inr (.inl (fun _ => 0))))))) hC9.1 hC9.2.1 (hC9.2.2.2.2.2.2.2.2.2.2.2.1.2.1 _ hw _) rfl hC9.2.2.2.2.2.2.2.2.2.2.2.1.1 hP hD hS9 (fun q h => Nat.le_trans hC9.2.2.2.2.2.2.2.2.2.2.2.2.2.1 h) (fun cA => rfl) (nI_pos (by omega)) (nI_clamp (by omega)) (by show n * 8 ≤ 536870912; omega) (by rw [hroom.1]; omega) (by rw [hroom.2.1]; omega) hd (fun q cA H1 g0 g1 g2 g3 => ?_)
  have e1 : s9.vm.findClass ("[" ++ (.double : FieldType).toString) = some cA := (g0.2 7 _ rfl).2
  have e2 : s9.vm.findClass ("[" ++ (.double : FieldType).toString) = some (G.2.2.1 7) := (hC9.2.2.2.2.2.2.2.2.2.2.2.1.1.2 6 _ rfl).2
  cases Option.some.inj (e1.symm.trans e2)
  have hfr := fresh_of hcov.1 g2
  refine K H1 [] _ _ _ g3 (fun hm hS1 => k q hfr mc ms p e R s m args below meth c hC H1 _ arr _ _ ⟨_, g1, g2, cover_push hcov.1 (fun _ => ?_) (fun b hb hkb => ⟨?_, oth_nA hb⟩), hcov.2.pushA hm⟩ hS1 hl ha (by omega) (by omega))
  · rw [cellOf_dbl (k := k9) (by rw [kd_nA, if_pos rfl]) hk9, ln_nA, if_pos rfl, gD_nA, if_pos rfl]
  · rw [kd_nA, if_neg hb] at hkb
    exact hkb
theorem r_new_obj {n idx : Nat} {i : Int32} (k9 : Nat) (hd : decode M.2.1 pc = .ok (.anewarray idx, 3)) (hw : Cond.classLink M.1.cls idx "java/lang/Object" ∈ lw_all) (hk9 : k9 / 1000 = 4) (hi : i = nI n) (hn : n ≤ 65536) (hc1 : 1 ≤ rc) (hs1 : n ≤ rs) (k : ∀ q, kd H q = 0 → AW M G d Qr Qx (rc - 1) (rs - n) (nA H q k9 n) (pc + 3) ls (vR (some q) :: st)) : AW M G d Qr Qx (rc) (rs) H (pc) ls (vI i :: st) := by
  intro mc ms p e R s m args below meth c hC Hc locs arr cells slots hR hS hl ha hc hs
  refine mp_wrap hC hS hc hs (fun s9 R9 hC9 hs9 K => ?_)
  have hS9 : va_S (gBase G) s9.heap Hc [] := by rw [hs9]; exact va_S.rf
  have hroom := hC9.2.2.2.2.2.2.2.2.2
  obtain ⟨ws, hP, hD, hcov⟩ := hR
  subst hi
  refine va_newq (D := G.2.1) (tys := tysOf G.2.2.1) (C := "java/lang/Object") (N' := n) hC9.1 hC9.2.1 hC9.2.2.2.1 (hC9.2.2.2.2.2.2.2.2.2.2.2.1.2.1 _ hw _) hC9.2.2.2.2.2.2.2.2.2.2.2.1.2.2.2.2.2.1 hC9.2.2.2.2.2.2.2.2.2.2.2.1.1 hP hD hS9 (fun q h => Nat.le_trans hC9.2.2.2.2.2.2.2.2.2.2.2.2.2.1 h) (nI_pos (by omega)) (nI_clamp (by omega)) (by omega) (by rw [hroom.1]; omega) (by rw [hroom.2.1]; omega) hd (fun q cA H1 g0 g1 g2 g3 => ?_)
  obtain ⟨_, _, _, _, _, e1⟩ := (g0.2 7 _ rfl).2
  obtain ⟨_, _, _, _, _, e2⟩ := (hC9.2.2.2.2.2.2.2.2.2.2.2.1.1.2 3 _ rfl).2
  cases Option.some.inj (e1.symm.trans e2)
  have hfr := fresh_of hcov.1 g2
  refine K H1 [] _ _ _ g3 (fun hm hS1 => k q hfr mc ms p e R s m args below meth c hC H1 _ arr _ _ ⟨_, g1, g2, cover_push hcov.1 (fun _ => ?_) (fun b hb hkb => ⟨?_, oth_nA hb⟩), hcov.2.pushA hm⟩ hS1 hl ha (by omega) (by omega))
  · rw [cellOf_ref (k := k9) (by rw [kd_nA, if_pos rfl]) hk9 (by decide) (by decide), ln_nA, if_pos rfl, gQ_nA, if_pos ⟨rfl, rfl⟩]
  · rw [kd_nA, if_neg hb] at hkb
    exact hkb
theorem r_new_node {n idx : Nat} {i : Int32} (k9 : Nat) (hd : decode M.2.1 pc = .ok (.anewarray idx, 3)) (hw : Cond.classLink M.1.cls idx "java/util/HashMap$Node" ∈ lw_all) (hk9 : k9 / 1000 = 5) (hi : i = nI n) (hn : n ≤ 65536) (hc1 : 1 ≤ rc) (hs1 : n ≤ rs) (k : ∀ q, kd H q = 0 → AW M G d Qr Qx (rc - 1) (rs - n) (nA H q k9 n) (pc + 3) ls (vR (some q) :: st)) : AW M G d Qr Qx (rc) (rs) H (pc) ls (vI i :: st) := by
  intro mc ms p e R s m args below meth c hC Hc locs arr cells slots hR hS hl ha hc hs
  refine mp_wrap hC hS hc hs (fun s9 R9 hC9 hs9 K => ?_)
  have hS9 : va_S (gBase G) s9.heap Hc [] := by rw [hs9]; exact va_S.rf
  have hroom := hC9.2.2.2.2.2.2.2.2.2
  obtain ⟨ws, hP, hD, hcov⟩ := hR
  subst hi
  refine va_newq (D := G.2.1) (tys := tysOf G.2.2.1) (C := "java/util/HashMap$Node") (N' := n) hC9.1 hC9.2.1 hC9.2.2.2.1 (hC9.2.2.2.2.2.2.2.2.2.2.2.1.2.1 _ hw _) hC9.2.2.2.2.2.2.2.2.2.2.2.1.2.2.2.2.2.2.1 hC9.2.2.2.2.2.2.2.2.2.2.2.1.1 hP hD hS9 (fun q h => Nat.le_trans hC9.2.2.2.2.2.2.2.2.2.2.2.2.2.1 h) (nI_pos (by omega)) (nI_clamp (by omega)) (by omega) (by rw [hroom.1]; omega) (by rw [hroom.2.1]; omega) hd (fun q cA H1 g0 g1 g2 g3 => ?_)
  obtain ⟨_, _, _, _, _, e1⟩ := (g0.2 7 _ rfl).2
  obtain ⟨_, _, _, _, _, e2⟩ := (hC9.2.2.2.2.2.2.2.2.2.2.2.1.1.2 4 _ rfl).2
  cases Option.some.inj (e1.symm.trans e2)
  have hfr := fresh_of hcov.1 g2
  refine K H1 [] _ _ _ g3 (fun hm hS1 => k q hfr mc ms p e R s m args below meth c hC H1 _ arr _ _ ⟨_, g1, g2, cover_push hcov.1 (fun _ => ?_) (fun b hb hkb => ⟨?_, oth_nA hb⟩), hcov.2.pushA hm⟩ hS1 hl ha (by omega) (by omega))
  · rw [cellOf_ref (k := k9) (by rw [kd_nA, if_pos rfl]) hk9 (by decide) (by decide), ln_nA, if_pos rfl, gQ_nA, if_pos ⟨rfl, rfl⟩]
  · rw [kd_nA, if_neg hb] at hkb
    exact hkb
theorem r_cast {a ci idx : Nat} {C nm : String} {T : u_T} {N : Nat} (hd : decode M.2.1 pc = .ok (.checkcast idx, 3)) (hk : kd H a = ci + 1) (hc9 : vwCl[ci]? = some (C, T, N)) (hw : Cond.classLink M.1.cls idx nm ∈ lw_all) (hn : C = nm ∨ Cond.castable C nm ∈ lw_tbl) (k : AW M G d Qr Qx (rc) (rs) H (pc + 3) ls (vR (some a) :: st)) : AW M G d Qr Qx (rc) (rs) H (pc) ls (vR (some a) :: st) := by
  intro mc ms p e R s m args below meth c hC Hc locs arr cells slots hR hS hl ha hc hs
  have hr := arecv hC.2.2.2.2.2.2.2.2.2.2.2.1 hR hk hc9
  rcases hn with rfl | hn
  · exact va_castE hC.1 hC.2.1 hC.2.2.2.1 (hC.2.2.2.2.2.2.2.2.2.2.2.1.2.1 _ hw _) hr hd (k mc ms p e R s m args below meth c hC Hc locs arr cells slots hR hS hl ha hc hs)
  · exact va_castY hC.1 hC.2.1 hC.2.2.2.1 (hC.2.2.2.2.2.2.2.2.2.2.2.1.2.1 _ hw _) (hC.2.2.2.2.2.2.2.2.2.2.2.1.2.2.1 _ hn rfl) hr hd (k mc ms p e R s m args below meth c hC Hc locs arr cells slots hR hS hl ha hc hs)
theorem r_castN {idx : Nat} (hd : decode M.2.1 pc = .ok (.checkcast idx, 3)) (k : AW M G d Qr Qx (rc) (rs) H (pc + 3) ls (vR none :: st)) : AW M G d Qr Qx (rc) (rs) H (pc) ls (vR none :: st) := by
  intro mc ms p e R s m args below meth c hC Hc locs arr cells slots hR hS hl ha hc hs
  exact lv_castN hC.1 hC.2.1 hd (k mc ms p e R s m args below meth c hC Hc locs arr cells slots hR hS hl ha hc hs)
theorem r_castI {a j9 idx : Nat} {nm : String} (hd : decode M.2.1 pc = .ok (.checkcast idx, 3)) (hj : j9 < 256) (ha9 : a = gSt G (j9 + 10)) (hw : Cond.classLink M.1.cls idx nm ∈ lw_all) (hn : "java/lang/Integer" = nm ∨ Cond.castable "java/lang/Integer" nm ∈ lw_tbl) (k : AW M G d Qr Qx (rc) (rs) H (pc + 3) ls (vR (some a) :: st)) : AW M G d Qr Qx (rc) (rs) H (pc) ls (vR (some a) :: st) := by
  intro mc ms p e R s m args below meth c hC Hc locs arr cells slots hR hS hl ha hc hs
  obtain ⟨cell, g1, g2, g3, g4⟩ := hC.2.2.2.2.2.2.2.2.2.2.2.2.1.2.2.2.2.1.1 j9 hj
  have hlt : gSt G (j9 + 10) < s.heap.size := (Array.getElem?_eq_some_iff.mp g1).1
  subst ha9
  have hr : ∃ cell : Cell, Hc[gSt G (j9 + 10)]? = some cell ∧ cell.vm.isStatics = false ∧ s.vm.findClass "java/lang/Integer" = some cell.cls := ⟨cell, by rw [hS.2.1 _ hlt g4]; exact g1, g2, g3⟩
  rcases hn with rfl | hn
  · exact va_castE hC.1 hC.2.1 hC.2.2.2.1 (hC.2.2.2.2.2.2.2.2.2.2.2.1.2.1 _ hw _) hr hd (k mc ms p e R s m args below meth c hC Hc locs arr cells slots hR hS hl ha hc hs)
  · exact va_castY hC.1 hC.2.1 hC.2.2.2.1 (hC.2.2.2.2.2.2.2.2.2.2.2.1.2.1 _ hw _) (hC.2.2.2.2.2.2.2.2.2.2.2.1.2.2.1 _ hn rfl) hr hd (k mc ms p e R s m args below meth c hC Hc locs arr cells slots hR hS hl ha hc hs)
theorem r_inst {a ci idx : Nat} {C nm : String} {T : u_T} {N : Nat} (hd : decode M.2.1 pc = .ok (.instanceof idx, 3)) (hk : kd H a = ci + 1) (hc9 : vwCl[ci]? = some (C, T, N)) (hw : Cond.classLink M.1.cls idx nm ∈ lw_all) (hn : C = nm ∨ Cond.castable C nm ∈ lw_tbl) (k : AW M G d Qr Qx (rc) (rs) H (pc + 3) ls (vI 1 :: st)) : AW M G d Qr Qx (rc) (rs) H (pc) ls (vR (some a) :: st) := by
  intro mc ms p e R s m args below meth c hC Hc locs arr cells slots hR hS hl ha hc hs
  have hr := arecv hC.2.2.2.2.2.2.2.2.2.2.2.1 hR hk hc9
  rcases hn with rfl | hn
  · exact va_instE hC.1 hC.2.1 hC.2.2.2.1 (hC.2.2.2.2.2.2.2.2.2.2.2.1.2.1 _ hw _) hr hd (k mc ms p e R s m args below meth c hC Hc locs arr cells slots hR hS hl ha hc hs)
  · exact va_instY hC.1 hC.2.1 hC.2.2.2.1 (hC.2.2.2.2.2.2.2.2.2.2.2.1.2.1 _ hw _) (hC.2.2.2.2.2.2.2.2.2.2.2.1.2.2.1 _ hn rfl) hr hd (k mc ms p e R s m args below meth c hC Hc locs arr cells slots hR hS hl ha hc hs)
theorem r_instNo {a ci idx : Nat} {C nm : String} {T : u_T} {N : Nat} (hd : decode M.2.1 pc = .ok (.instanceof idx, 3)) (hk : kd H a = ci + 1) (hc9 : vwCl[ci]? = some (C, T, N)) (hw : Cond.classLink M.1.cls idx nm ∈ lw_all) (hn : (C, nm) ∈ ncL) (k : AW M G d Qr Qx (rc) (rs) H (pc + 3) ls (vI 0 :: st)) : AW M G d Qr Qx (rc) (rs) H (pc) ls (vR (some a) :: st) := by
  intro mc ms p e R s m args below meth c hC Hc locs arr cells slots hR hS hl ha hc hs
  have hr := arecv hC.2.2.2.2.2.2.2.2.2.2.2.1 hR hk hc9
  exact va_instNo hC.1 hC.2.1 hC.2.2.2.1 (hC.2.2.2.2.2.2.2.2.2.2.2.1.2.1 _ hw _) (hC.2.2.2.2.2.2.2.2.2.2.2.1.2.2.2.2.1 (C, nm) hn) hr hd (k mc ms p e R s m args below meth c hC Hc locs arr cells slots hR hS hl ha hc hs)
theorem r_gs_compact {idx : Nat} (hd : decode M.2.1 pc = .ok (.getstatic idx, 3)) (hw : Cond.fieldLink M.1.cls idx "java/lang/String" "COMPACT_STRINGS" "Z" ∈ lw_all ∨ ∃ host, Cond.fieldLinkNest M.1.cls idx "java/lang/String" "COMPACT_STRINGS" "Z" host ∈ lw_tbl) (k : AW M G d Qr Qx (rc) (rs) H (pc + 3) ls (vI 1 :: st)) : AW M G d Qr Qx (rc) (rs) H (pc) ls (st) := by
  intro mc ms p e R s m args below meth c hC Hc locs arr cells slots hR hS hl ha hc hs
  rcases hw with hw | ⟨host, hw⟩
  · exact va_gets hC.1 hC.2.1 hC.2.2.2.2.2.2.2.2.2.2.2.2.1.1 hS hC.2.2.2.1 (hC.2.2.2.2.2.2.2.2.2.2.2.1.2.1 _ hw _) (fun _ h => h) hd (k mc ms p e R s m args below meth c hC Hc locs arr cells slots hR hS hl ha hc hs)
  · exact va_getsN hC.1 hC.2.1 hC.2.2.2.2.2.2.2.2.2.2.2.2.1.1 hS hC.2.2.2.1 (va_Nw.use rfl (hC.2.2.2.2.2.2.2.2.2.2.2.1.2.2.1 _ hw rfl)) (fun _ h => h) hd (k mc ms p e R s m args below meth c hC Hc locs arr cells slots hR hS hl ha hc hs)
theorem r_gs_high {idx : Nat} (hd : decode M.2.1 pc = .ok (.getstatic idx, 3)) (hw : Cond.fieldLink M.1.cls idx "java/lang/Integer$IntegerCache" "high" "I" ∈ lw_all ∨ ∃ host, Cond.fieldLinkNest M.1.cls idx "java/lang/Integer$IntegerCache" "high" "I" host ∈ lw_tbl) (k : AW M G d Qr Qx (rc) (rs) H (pc + 3) ls (vI 127 :: st)) : AW M G d Qr Qx (rc) (rs) H (pc) ls (st) := by
  intro mc ms p e R s m args below meth c hC Hc locs arr cells slots hR hS hl ha hc hs
  rcases hw with hw | ⟨host, hw⟩
  · exact va_gets hC.1 hC.2.1 hC.2.2.2.2.2.2.2.2.2.2.2.2.1.2.1 hS hC.2.2.2.1 (hC.2.2.2.2.2.2.2.2.2.2.2.1.2.1 _ hw _) (fun _ h => h) hd (k mc ms p e R s m args below meth c hC Hc locs arr cells slots hR hS hl ha hc hs)
  · exact va_getsN hC.1 hC.2.1 hC.2.2.2.2.2.2.2.2.2.2.2.2.1.2.1 hS hC.2.2.2.1 (va_Nw.use rfl (hC.2.2.2.2.2.2.2.2.2.2.2.1.2.2.1 _ hw rfl)) (fun _ h => h) hd (k mc ms p e R s m args below meth c hC Hc locs arr cells slots hR hS hl ha hc hs)
theorem r_gs_cache {idx : Nat} (hd : decode M.2.1 pc = .ok (.getstatic idx, 3)) (hw : Cond.fieldLink M.1.cls idx "java/lang/Integer$IntegerCache" "cache" "[Ljava/lang/Integer;" ∈ lw_all ∨ ∃ host, Cond.fieldLinkNest M.1.cls idx "java/lang/Integer$IntegerCache" "cache" "[Ljava/lang/Integer;" host ∈ lw_tbl) (k : AW M G d Qr Qx (rc) (rs) H (pc + 3) ls (vR (some (gSt G 0)) :: st)) : AW M G d Qr Qx (rc) (rs) H (pc) ls (st) := by
  intro mc ms p e R s m args below meth c hC Hc locs arr cells slots hR hS hl ha hc hs
  rcases hw with hw | ⟨host, hw⟩
  · exact va_gets hC.1 hC.2.1 hC.2.2.2.2.2.2.2.2.2.2.2.2.1.2.2.1 hS hC.2.2.2.1 (hC.2.2.2.2.2.2.2.2.2.2.2.1.2.1 _ hw _) (fun _ h => h) hd (k mc ms p e R s m args below meth c hC Hc locs arr cells slots hR hS hl ha hc hs)
  · exact va_getsN hC.1 hC.2.1 hC.2.2.2.2.2.2.2.2.2.2.2.2.1.2.2.1 hS hC.2.2.2.1 (va_Nw.use rfl (hC.2.2.2.2.2.2.2.2.2.2.2.1.2.2.1 _ hw rfl)) (fun _ h => h) hd (k mc ms p e R s m args below meth c hC Hc locs arr cells slots hR hS hl ha hc hs)
theorem r_gs_empty {idx : Nat} (hd : decode M.2.1 pc = .ok (.getstatic idx, 3)) (hw : Cond.fieldLink M.1.cls idx "java/util/ArrayList" "DEFAULTCAPACITY_EMPTY_ELEMENTDATA" "[Ljava/lang/Object;" ∈ lw_all ∨ ∃ host, Cond.fieldLinkNest M.1.cls idx "java/util/ArrayList" "DEFAULTCAPACITY_EMPTY_ELEMENTDATA" "[Ljava/lang/Object;" host ∈ lw_tbl) (k : AW M G d Qr Qx (rc) (rs) H (pc + 3) ls (vR (some (gSt G 1)) :: st)) : AW M G d Qr Qx (rc) (rs) H (pc) ls (st) := by
  intro mc ms p e R s m args below meth c hC Hc locs arr cells slots hR hS hl ha hc hs
  rcases hw with hw | ⟨host, hw⟩
  · exact va_gets hC.1 hC.2.1 hC.2.2.2.2.2.2.2.2.2.2.2.2.1.2.2.2.2.2.1 hS hC.2.2.2.1 (hC.2.2.2.2.2.2.2.2.2.2.2.1.2.1 _ hw _) (fun _ h => h) hd (k mc ms p e R s m args below meth c hC Hc locs arr cells slots hR hS hl ha hc hs)
  · exact va_getsN hC.1 hC.2.1 hC.2.2.2.2.2.2.2.2.2.2.2.2.1.2.2.2.2.2.1 hS hC.2.2.2.1 (va_Nw.use rfl (hC.2.2.2.2.2.2.2.2.2.2.2.1.2.2.1 _ hw rfl)) (fun _ h => h) hd (k mc ms p e R s m args below meth c hC Hc locs arr cells slots hR hS hl ha hc hs)
theorem r_gs_ust {idx : Nat} (hd : decode M.2.1 pc = .ok (.getstatic idx, 3)) (hw : Cond.fieldLink M.1.cls idx Bundle.tN "UNASSIGNED_STACK" Bundle.steD ∈ lw_all) (k : ∀ r : Option Nat, AW M G d Qr Qx (rc) (rs) H (pc + 3) ls (vR r :: st)) : AW M G d Qr Qx (rc) (rs) H (pc) ls (st) := by
  intro mc ms p e R s m args below meth c hC Hc locs arr cells slots hR hS hl ha hc hs
  rcases hC.2.2.2.2.2.2.2.2.2.2.2.2.1.2.2.2.2.2.2.2.1.1 with h | ⟨t, h⟩
  · exact va_gets hC.1 hC.2.1 h hS hC.2.2.2.1 (hC.2.2.2.2.2.2.2.2.2.2.2.1.2.1 _ hw _) (fun _ h => h) hd (k none mc ms p e R s m args below meth c hC Hc locs arr cells slots hR hS hl ha hc hs)
  · exact va_gets hC.1 hC.2.1 h hS hC.2.2.2.1 (hC.2.2.2.2.2.2.2.2.2.2.2.1.2.1 _ hw _) (fun _ h => h) hd (k (some t) mc ms p e R s m args below meth c hC Hc locs arr cells slots hR hS hl ha hc hs)
theorem r_gs_ssen {idx : Nat} (hd : decode M.2.1 pc = .ok (.getstatic idx, 3)) (hw : Cond.fieldLink M.1.cls idx Bundle.tN "SUPPRESSED_SENTINEL" Bundle.listD ∈ lw_all) (k : ∀ r : Option Nat, AW M G d Qr Qx (rc) (rs) H (pc + 3) ls (vR r :: st)) : AW M G d Qr Qx (rc) (rs) H (pc) ls (st) := by
  intro mc ms p e R s m args below meth c hC Hc locs arr cells slots hR hS hl ha hc hs
  rcases hC.2.2.2.2.2.2.2.2.2.2.2.2.1.2.2.2.2.2.2.2.2.1 with h | ⟨t, h⟩
  · exact va_gets hC.1 hC.2.1 h hS hC.2.2.2.1 (hC.2.2.2.2.2.2.2.2.2.2.2.1.2.1 _ hw _) (fun _ h => h) hd (k none mc ms p e R s m args below meth c hC Hc locs arr cells slots hR hS hl ha hc hs)
  · exact va_gets hC.1 hC.2.1 h hS hC.2.2.2.1 (hC.2.2.2.2.2.2.2.2.2.2.2.1.2.1 _ hw _) (fun _ h => h) hd (k (some t) mc ms p e R s m args below meth c hC Hc locs arr cells slots hR hS hl ha hc hs)
theorem r_alenE (hd : decode M.2.1 pc = .ok (.arraylength, 1)) (k : AW M G d Qr Qx (rc) (rs) H (pc + 1) ls (vI 0 :: st)) : AW M G d Qr Qx (rc) (rs) H (pc) ls (vR (some (gSt G 1)) :: st) := by
  intro mc ms p e R s m args below meth c hC Hc locs arr cells slots hR hS hl ha hc hs
  obtain ⟨cell, g1, g2, g3, g4, g5, g6, g7⟩ := hC.2.2.2.2.2.2.2.2.2.2.2.2.1.2.2.2.2.2.2.1.1
  have hlt : gSt G 1 < s.heap.size := (Array.getElem?_eq_some_iff.mp g1).1
  exact W.alen (n := 0) (a := gSt G 1) hC.1 hC.2.1 (by rw [hS.2.1 _ hlt g7]; exact g1) g2 (by rw [g5]; rfl) rfl rfl hd (k mc ms p e R s m args below meth c hC Hc locs arr cells slots hR hS hl ha hc hs)
theorem r_ic {i : Int32} {j9 : Nat} (hd : decode M.2.1 pc = .ok (.aaload, 1)) (hi : i = nI j9) (hj : j9 < 256) (k : AW M G d Qr Qx (rc) (rs) H (pc + 1) ls (vR (some (gSt G (j9 + 10))) :: st)) : AW M G d Qr Qx (rc) (rs) H (pc) ls (vI i :: vR (some (gSt G 0)) :: st) := by
  intro mc ms p e R s m args below meth c hC Hc locs arr cells slots hR hS hl ha hc hs
  obtain ⟨g8, g9⟩ := vp_in_of9 hi hj (by decide)
  exact vb_tq hC.1 hC.2.1 hC.2.2.2.2.2.2.2.2.2.2.2.2.1.2.2.2.1 hS g8 (by rw [g9]; rfl) hd (k mc ms p e R s m args below meth c hC Hc locs arr cells slots hR hS hl ha hc hs)
theorem r_getIc {a j9 idx : Nat} {v : Int32} (hd : decode M.2.1 pc = .ok (.getfield idx, 3)) (hw : Cond.fieldLink M.1.cls idx "java/lang/Integer" "value" "I" ∈ lw_all) (hj : j9 < 256) (ha9 : a = gSt G (j9 + 10)) (hv : vb_c j9 = v) (k : AW M G d Qr Qx (rc) (rs) H (pc + 3) ls (vI v :: st)) : AW M G d Qr Qx (rc) (rs) H (pc) ls (vR (some a) :: st) := by
  intro mc ms p e R s m args below meth c hC Hc locs arr cells slots hR hS hl ha hc hs
  subst ha9
  subst hv
  exact va_getX (i := j9) (ad := fun k => gSt G (k + 10)) hC.1 hC.2.1 hC.2.2.2.2.2.2.2.2.2.2.2.2.1.2.2.2.2.1.2 hj hS hC.2.2.2.1 (hC.2.2.2.2.2.2.2.2.2.2.2.1.2.1 _ hw _) (fun _ h => h) hd (k mc ms p e R s m args below meth c hC Hc locs arr cells slots hR hS hl ha hc hs)
theorem r_objInit {r : Option Nat} {idx : Nat} (hd : decode M.2.1 pc = .ok (.invokespecial idx, 3)) (hw : Cond.methodLink M.1.cls idx Lib.objectInit ∈ lw_all) {a : Nat} (hr : r = some a) (hd1 : 1 ≤ d) (hst : catS st ≤ 8) (k : AW M G d Qr Qx (rc) (rs) H (pc + 3) ls (st)) : AW M G d Qr Qx (rc) (rs) H (pc) ls (vR r :: st) := by
  intro mc ms p e R s m args below meth c hC Hc locs arr cells slots hR hS hl ha hc hs
  subst hr
  have hroom := hC.2.2.2.2.2.2.2
  refine W.eq (g2 := F0 m pc arr (.ref a :: st.map tV)) rfl (W.objInit hC.1 hC.2.1 hC.2.2.2.1 (hC.2.2.2.2.2.2.2.2.2.2.2.1.2.1 _ hw _) (hC.2.2.2.2.2.2.2.2.2.2.2.1.2.1 _ q147 _) (hC.2.2.2.2.2.2.2.2.2.2.2.1.2.1 _ q148 _) rfl ha rfl hd (by omega) ?_ ?_)
  · show 2 * 0 + _ + 12 ≤ _
    rw [catS_eq]
    omega
  · exact W.eq (g2 := F0 m (pc + 3) arr (st.map tV)) rfl (k mc ms p e R s m args below meth c hC Hc locs arr cells slots hR hS hl ha hc hs)
end R5
