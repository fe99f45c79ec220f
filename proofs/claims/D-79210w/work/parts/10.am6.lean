set_option maxRecDepth 100000
/-- what a call asks of the callee's words -/
def CB (own : String) (idx : Nat) (y : MethodName) (cw : Cond) (n : Nat) : Prop := ∃ (cy : ByteArray) (maxL : Nat) (ret : Option FieldType), cw = Cond.code y cy maxL ret ∧ Cond.methodLink own idx y ∈ lw_all ∧ Cond.initialized y.cls ∈ lw_all ∧ Cond.code y cy maxL ret ∈ lw_all ∧ (y.cls ≠ "java/lang/invoke/MethodHandle" ∧ y.cls ≠ "java/lang/invoke/VarHandle") ∧ (parseMethodDescriptor y.desc).map (fun d => d.parameters.length) = some n ∧ maxL ≤ 40
def CBN (own : String) (idx : Nat) (y : MethodName) (cw : Cond) (n : Nat) : Prop := ∃ (cy : ByteArray) (maxL : Nat) (ret : Option FieldType) (host : String), cw = Cond.code y cy maxL ret ∧ Cond.methodLinkNest own idx y host ∈ lw_tbl ∧ Cond.initialized y.cls ∈ lw_all ∧ Cond.code y cy maxL ret ∈ lw_all ∧ (y.cls ≠ "java/lang/invoke/MethodHandle" ∧ y.cls ≠ "java/lang/invoke/VarHandle") ∧ (parseMethodDescriptor y.desc).map (fun d => d.parameters.length) = some n ∧ maxL ≤ 40
def CBX (own : String) (idx : Nat) (y : MethodName) (cw : Cond) (n : Nat) : Prop := ∃ (cy : ByteArray) (maxL : Nat) (ret : Option FieldType) (hh : List (Nat × Nat × Nat × Nat)), cw = Cond.codeWith y cy maxL ret hh ∧ Cond.methodLink own idx y ∈ lw_all ∧ Cond.initialized y.cls ∈ lw_all ∧ Cond.codeWith y cy maxL ret hh ∈ lw_all ∧ (y.cls ≠ "java/lang/invoke/MethodHandle" ∧ y.cls ≠ "java/lang/invoke/VarHandle") ∧ (parseMethodDescriptor y.desc).map (fun d => d.parameters.length) = some n ∧ maxL ≤ 40
def CV (own : String) (idx : Nat) (y : MethodName) (cw : Cond) (n : Nat) : Prop := CB own idx y cw n ∧ Cond.instanceMethod y ∈ lw_all ∧ Cond.selects y.cls y y ∈ lw_all
def CVN (own : String) (idx : Nat) (y : MethodName) (cw : Cond) (n : Nat) : Prop := CBN own idx y cw n ∧ Cond.instanceMethod y ∈ lw_all ∧ Cond.selects y.cls y y ∈ lw_all
def CVX (own : String) (idx : Nat) (y : MethodName) (cw : Cond) (n : Nat) : Prop := CBX own idx y cw n ∧ Cond.instanceMethod y ∈ lw_all ∧ Cond.selects y.cls y y ∈ lw_all
def CS (own : String) (idx : Nat) (y : MethodName) (cw : Cond) (n : Nat) : Prop := CB own idx y cw n ∧ Cond.static y ∈ lw_all
def CSN (own : String) (idx : Nat) (y : MethodName) (cw : Cond) (n : Nat) : Prop := CBN own idx y cw n ∧ Cond.static y ∈ lw_all
def CSX (own : String) (idx : Nat) (y : MethodName) (cw : Cond) (n : Nat) : Prop := CBX own idx y cw n ∧ Cond.static y ∈ lw_all
def CI (own : String) (idx : Nat) (y : MethodName) (cw : Cond) (n : Nat) : Prop := CB own idx y cw n ∧ y.name = "<init>" ∧ Cond.instanceMethod y ∈ lw_all ∧ parseMethodDescriptor y.desc = parseMethodDescriptor y.desc ∧ (∃ (cy : ByteArray) (maxL : Nat), cw = Cond.code y cy maxL none)
def CIN (own : String) (idx : Nat) (y : MethodName) (cw : Cond) (n : Nat) : Prop := CBN own idx y cw n ∧ y.name = "<init>" ∧ Cond.instanceMethod y ∈ lw_all ∧ (∃ (cy : ByteArray) (maxL : Nat), cw = Cond.code y cy maxL none)
/-- a call of x that comes to y in an object of class C -/
def CU (own : String) (idx : Nat) (C : String) (x y : MethodName) (cw : Cond) (n : Nat) : Prop := ∃ (cy : ByteArray) (maxL : Nat) (ret : Option FieldType) (owner : String), cw = Cond.code y cy maxL ret ∧ Cond.methodLink own idx x ∈ lw_all ∧ Cond.sameMethod x.cls owner x.name x.desc ∈ lw_all ∧ ((Cond.instanceMethod ⟨owner, x.name, x.desc⟩ ∈ lw_all ∧ ∃ b L r, Cond.code ⟨owner, x.name, x.desc⟩ b L r ∈ lw_all) ∨ Cond.declares ⟨owner, x.name, x.desc⟩ ∈ lw_tbl) ∧ Cond.selects C x y ∈ lw_all ∧ Cond.instanceMethod y ∈ lw_all ∧ Cond.initialized y.cls ∈ lw_all ∧ Cond.code y cy maxL ret ∈ lw_all ∧ (owner ≠ "java/lang/invoke/MethodHandle" ∧ owner ≠ "java/lang/invoke/VarHandle") ∧ (parseMethodDescriptor x.desc).map (fun d => d.parameters.length) = some n ∧ maxL ≤ 40
def CF (own : String) (idx : Nat) (C : String) (x y : MethodName) (cw : Cond) (n : Nat) : Prop := ∃ (cy : ByteArray) (maxL : Nat) (ret : Option FieldType), cw = Cond.code y cy maxL ret ∧ Cond.methodLink own idx x ∈ lw_all ∧ (C, x, y) ∈ fwL ∧ Cond.selects C x y ∈ lw_all ∧ Cond.instanceMethod y ∈ lw_all ∧ Cond.initialized y.cls ∈ lw_all ∧ Cond.code y cy maxL ret ∈ lw_all ∧ (x.cls ≠ "java/lang/invoke/MethodHandle" ∧ x.cls ≠ "java/lang/invoke/VarHandle") ∧ (parseMethodDescriptor x.desc).map (fun d => d.parameters.length) = some n ∧ maxL ≤ 40
def CSU (own : String) (idx : Nat) (y : MethodName) (cw : Cond) (n : Nat) : Prop := CB own idx y cw n ∧ Cond.sameMethod y.cls y.cls y.name y.desc ∈ lw_all ∧ Cond.superclass own y.cls ∈ lw_all ∧ Cond.instanceMethod y ∈ lw_all ∧ y.name ≠ "<init>"
theorem map_app (v : Option AV) (st : List AV) : (v.map tV).toList ++ st.map tV = (v.toList ++ st).map tV := by cases v <;> rfl
section R6
variable {M : MI} {G : Gl} {d : Nat} {Qr : Option AV → AH → Prop} {Qx : String → Nat → AH → Prop} {rc rs : Nat} {H : AH} {pc : Nat} {ls : List (Option AV)} {st : List AV}
variable {p : Program} {e : Env} {R : Room} {s : State} {m : MethodId} {args : Array Value} {below : List Frame} {meth : Method} {c : Code} {Hc : Heap} {locs : List Loc} {cells slots mc ms : Nat} {arr : Array Slot} {stV : List Value} {mc' ms' : Nat} {a9 : Array Value}
theorem run_AW (hC : CtxOK M G d mc ms p R s m meth c) (hS : va_S (gBase G) s.heap Hc locs) (hl : LR arr ls) (ha : arr.size = c.maxLocals) (hc : cells + rc ≤ mc) (hs : slots + rs ≤ ms) (h1 : mc' ≤ rc) (h2 : ms' ≤ rs)
    (hr : vx_Run p G.1 e R s m args below meth c Hc locs cells slots mc' ms' (F0 m pc arr stV) (st.map tV) (QcOf G (fun v H' => AW M G d Qr Qx (rc - mc') (rs - ms') H' (pc + 3) ls (v.toList ++ st)) a9) (XCOf G (fun E q H' => AX M G d Qr Qx (rc - mc') (rs - ms') H' pc ls E q)) (gBase G)) :
    W p G.1 e R s m args below meth c Hc locs cells slots (vx_MQ below (QcOf G Qr) (XCOf G Qx) args s mc ms (gBase G)) (F0 m pc arr stV) := by
  intro T hT X
  rcases hr T hT X with ⟨v, st₀, t, T', L, h0, X', hL, e1, e2, ⟨v', H', ho, hQ, hRep, hF⟩, st9⟩ | ⟨q, st₀, t, T', L, E, ce, h0, X', hL, e1, e2, ⟨H', hQ, hRep, hF⟩, hce, hcv, hcl, st9⟩
  · cases ho
    obtain ⟨k1, k2, k3⟩ := vx_keep h0 e1 hS (fun _ _ h => h) (fun _ h => h) hL hF
    obtain ⟨t2, a1, b1⟩ := hQ mc ms p e R s m args below meth c hC T'.heap (locs ++ L) arr (cells + mc') (slots + ms') (by rw [e1]; exact hRep) k3 hl ha (by omega) (by omega) T' rfl X'
    refine ⟨t2, st9 t2 ?_, b1⟩
    rw [map_app]
    exact a1
  · obtain ⟨k1, k2, k3⟩ := vx_keep h0 e1 hS (fun _ _ h => h) (fun _ h => h) hL hF
    obtain ⟨t2, a1, b1⟩ := hQ mc ms p e R s m args below meth c hC T'.heap (locs ++ L) arr (cells + mc') (slots + ms') ce (st.map tV) (by rw [e1]; exact hRep) k3 hl ha (by omega) (by omega) (by rw [e1]; exact hce) hcv hcl T' rfl X'
    exact ⟨t2, st9.trans a1, b1⟩
theorem run_AW5 (hC : CtxOK M G d mc ms p R s m meth c) (hS : va_S (gBase G) s.heap Hc locs) (hl : LR arr ls) (ha : arr.size = c.maxLocals) (hc : cells + rc ≤ mc) (hs : slots + rs ≤ ms) (h1 : mc' ≤ rc) (h2 : ms' ≤ rs)
    (hr : vx_Run5 p G.1 e R s m args below meth c Hc locs cells slots mc' ms' (F0 m pc arr stV) (st.map tV) (QcOf G (fun v H' => AW M G d Qr Qx (rc - mc') (rs - ms') H' (pc + 5) ls (v.toList ++ st)) a9) (XCOf G (fun E q H' => AX M G d Qr Qx (rc - mc') (rs - ms') H' pc ls E q)) (gBase G)) :
    W p G.1 e R s m args below meth c Hc locs cells slots (vx_MQ below (QcOf G Qr) (XCOf G Qx) args s mc ms (gBase G)) (F0 m pc arr stV) := by
  intro T hT X
  rcases hr T hT X with ⟨v, st₀, t, T', L, h0, X', hL, e1, e2, ⟨v', H', ho, hQ, hRep, hF⟩, st9⟩ | ⟨q, st₀, t, T', L, E, ce, h0, X', hL, e1, e2, ⟨H', hQ, hRep, hF⟩, hce, hcv, hcl, st9⟩
  · cases ho
    obtain ⟨k1, k2, k3⟩ := vx_keep h0 e1 hS (fun _ _ h => h) (fun _ h => h) hL hF
    obtain ⟨t2, a1, b1⟩ := hQ mc ms p e R s m args below meth c hC T'.heap (locs ++ L) arr (cells + mc') (slots + ms') (by rw [e1]; exact hRep) k3 hl ha (by omega) (by omega) T' rfl X'
    refine ⟨t2, st9 t2 ?_, b1⟩
    rw [map_app]
    exact a1
  · obtain ⟨k1, k2, k3⟩ := vx_keep h0 e1 hS (fun _ _ h => h) (fun _ h => h) hL hF
    obtain ⟨t2, a1, b1⟩ := hQ mc ms p e R s m args below meth c hC T'.heap (locs ++ L) arr (cells + mc') (slots + ms') ce (st.map tV) (by rw [e1]; exact hRep) k3 hl ha (by omega) (by omega) (by rw [e1]; exact hce) hcv hcl T' rfl X'
    exact ⟨t2, st9.trans a1, b1⟩
theorem pre_S (hC : CtxOK M G d mc ms p R s m meth c) (hR : Rep G H Hc) (hS : va_S (gBase G) s.heap Hc locs) (As : List AV) : PreS s Hc (PcOf G H As) (As.map tV) :=
  ⟨FrameBlind_PcOf, fun U hU hW => ⟨rfl, by rw [hU]; exact GOK.go hW hC.2.2.2.2.2.2.2.2.2.2.2 hS, by rw [hU]; exact hR⟩⟩
theorem pre_V {b ci N : Nat} {C : String} {T : u_T} (hC : CtxOK M G d mc ms p R s m meth c) (hR : Rep G H Hc) (hS : va_S (gBase G) s.heap Hc locs) (hk : kd H b = ci + 1) (hc9 : vwCl[ci]? = some (C, T, N)) (As : List AV) : PreV s Hc C b (PcOf G H (vR (some b) :: As)) (As.map tV) :=
  ⟨FrameBlind_PcOf, arecv hC.2.2.2.2.2.2.2.2.2.2.2.1 hR hk hc9, fun U hU hW => ⟨rfl, by rw [hU]; exact GOK.go hW hC.2.2.2.2.2.2.2.2.2.2.2 hS, by rw [hU]; exact hR⟩⟩
theorem cb_of {idx n : Nat} {y : MethodName} {cy : ByteArray} {maxL : Nat} {ret : Option FieldType} {sargs : Array Value} (hC : CtxOK M G d mc ms p R s m meth c) (hd1 : 1 ≤ d) (h1 : Cond.methodLink M.1.cls idx y ∈ lw_all) (h2 : Cond.initialized y.cls ∈ lw_all) (h3 : Cond.code y cy maxL ret ∈ lw_all) (h4 : y.cls ≠ "java/lang/invoke/MethodHandle" ∧ y.cls ≠ "java/lang/invoke/VarHandle") (h5 : (parseMethodDescriptor y.desc).map (fun d => d.parameters.length) = some n) (h6 : maxL ≤ 40) :
    CallB R s sargs M.1.cls idx y cy maxL ret [Cond.code y cy maxL ret] (rmOf (d - 1) mc' ms') mc' ms' n := by
  have hG : GW G s := hC.2.2.2.2.2.2.2.2.2.2.2.1
  have hroom := hC.2.2.2.2.2.2.2
  refine ⟨rfl, rfl, ?_, ?_, ?_, List.mem_cons_self, hG.2.1 _ h3 _, hG.2.1 _ h2 _, h4, ?_, hG.2.1 _ h1 _⟩
  · show d - 1 + 1 ≤ R.frames
    omega
  · show 8 + (maxL + 11) + 64 * (d - 1) ≤ R.locals
    omega
  · intro w hw a' U hW
    rw [List.mem_singleton] at hw
    subst hw
    exact (hG.warm hW).2.1 _ h3 _
  · intro sig hsig
    rw [hsig] at h5
    exact (Option.some.inj h5).symm
theorem r_callV {idx n mc' ms' : Nat} {y : MethodName} {cw : Cond} {As : List AV} {b ci N : Nat} {T : u_T} (hd : decode M.2.1 pc = .ok (.invokevirtual idx, 3)) (hw : CV M.1.cls idx y cw n) (hn : As.length = n) (hk : kd H b = ci + 1) (hc9 : vwCl[ci]? = some (y.cls, T, N)) (hd1 : 1 ≤ d) (h1 : mc' ≤ rc) (h2 : ms' ≤ rs) (hst : catS st ≤ 8) (hA : AMet G (d - 1) mc' ms' y cw H (vR (some b) :: As) (fun v H' => AW M G d Qr Qx (rc - mc') (rs - ms') H' (pc + 3) ls (v.toList ++ st)) (fun E q H' => AX M G d Qr Qx (rc - mc') (rs - ms') H' pc ls E q)) : AW M G d Qr Qx (rc) (rs) H (pc) ls (As.reverse ++ vR (some b) :: st) := by
  intro mc ms p e R s m args below meth c hC Hc locs arr cells slots hR hS hl ha hc hs
  obtain ⟨⟨cy, maxL, ret, rfl, w1, w2, w3, w4, w5, w6⟩, w7, w8⟩ := hw
  have hroom := hC.2.2.2.2.2.2.2.2.2
  refine run_AW (st := st) (a9 := (Value.ref b :: As.map tV).toArray) (mc' := mc') (ms' := ms') hC hS hl ha hc hs h1 h2 ?_
  exact vx_runV (S := ⟨hC.1, hC.2.1, rfl, hC.2.2.2.1, fun w h => absurd h List.not_mem_nil⟩) (Ts := []) hA ⟨cb_of hC hd1 w1 w2 w3 w4 w5 w6, hC.2.2.2.2.2.2.2.2.2.2.2.1.2.1 _ w7 _, hC.2.2.2.2.2.2.2.2.2.2.2.1.2.1 _ w8 _⟩ (pre_V hC hR hS hk hc9 As) rfl (by rw [List.length_map]; exact hn) ha (by show (List.map tV (As.reverse ++ vR (some b) :: st)) = _; rw [List.map_append, List.map_reverse] <;> rfl) (by show 2 * 0 + _ ≤ 8; rw [catS_eq]; omega) hd ⟨by omega, by omega⟩
theorem r_callS {idx n mc' ms' : Nat} {y : MethodName} {cw : Cond} {As : List AV} (hd : decode M.2.1 pc = .ok (.invokestatic idx, 3)) (hw : CS M.1.cls idx y cw n) (hn : As.length = n) (hd1 : 1 ≤ d) (h1 : mc' ≤ rc) (h2 : ms' ≤ rs) (hst : catS st ≤ 8) (hA : AMet G (d - 1) mc' ms' y cw H As (fun v H' => AW M G d Qr Qx (rc - mc') (rs - ms') H' (pc + 3) ls (v.toList ++ st)) (fun E q H' => AX M G d Qr Qx (rc - mc') (rs - ms') H' pc ls E q)) : AW M G d Qr Qx (rc) (rs) H (pc) ls (As.reverse ++ st) := by
  intro mc ms p e R s m args below meth c hC Hc locs arr cells slots hR hS hl ha hc hs
  obtain ⟨⟨cy, maxL, ret, rfl, w1, w2, w3, w4, w5, w6⟩, w7⟩ := hw
  have hroom := hC.2.2.2.2.2.2.2.2.2
  refine run_AW (st := st) (a9 := (As.map tV).toArray) (mc' := mc') (ms' := ms') hC hS hl ha hc hs h1 h2 ?_
  exact vx_runS (S := ⟨hC.1, hC.2.1, rfl, hC.2.2.2.1, fun w h => absurd h List.not_mem_nil⟩) (Ts := []) hA ⟨cb_of hC hd1 w1 w2 w3 w4 w5 w6, hC.2.2.2.2.2.2.2.2.2.2.2.1.2.1 _ w7 _⟩ (pre_S hC hR hS As) rfl (by rw [List.length_map]; exact hn) ha (by show (List.map tV (As.reverse ++ st)) = _; rw [List.map_append, List.map_reverse] <;> rfl) (by show 2 * 0 + _ ≤ 8; rw [catS_eq]; omega) hd ⟨by omega, by omega⟩
theorem r_callI {idx n mc' ms' : Nat} {y : MethodName} {cw : Cond} {As : List AV} {b : Nat} (hd : decode M.2.1 pc = .ok (.invokespecial idx, 3)) (hw : CI M.1.cls idx y cw n) (hn : As.length = n) (hd1 : 1 ≤ d) (h1 : mc' ≤ rc) (h2 : ms' ≤ rs) (hst : catS st ≤ 8) (hA : AMet G (d - 1) mc' ms' y cw H (vR (some b) :: As) (fun v H' => AW M G d Qr Qx (rc - mc') (rs - ms') H' (pc + 3) ls (v.toList ++ st)) (fun E q H' => AX M G d Qr Qx (rc - mc') (rs - ms') H' pc ls E q)) : AW M G d Qr Qx (rc) (rs) H (pc) ls (As.reverse ++ vR (some b) :: st) := by
  intro mc ms p e R s m args below meth c hC Hc locs arr cells slots hR hS hl ha hc hs
  obtain ⟨⟨cy, maxL, ret, rfl, w1, w2, w3, w4, w5, w6⟩, w7, w8, -, ⟨cy2, maxL2, e9⟩⟩ := hw
  cases e9
  have hroom := hC.2.2.2.2.2.2.2.2.2
  refine run_AW (st := st) (a9 := (Value.ref b :: As.map tV).toArray) (mc' := mc') (ms' := ms') hC hS hl ha hc hs h1 h2 ?_
  exact vx_runI (S := ⟨hC.1, hC.2.1, rfl, hC.2.2.2.1, fun w h => absurd h List.not_mem_nil⟩) (Ts := []) hA ⟨cb_of hC hd1 w1 w2 w3 w4 w5 w6, w7, hC.2.2.2.2.2.2.2.2.2.2.2.1.2.1 _ w8 _⟩ (pre_S hC hR hS (vR (some b) :: As)) rfl (by rw [List.length_map]; exact hn) ha (by show (List.map tV (As.reverse ++ vR (some b) :: st)) = _; rw [List.map_append, List.map_reverse] <;> rfl) (by show 2 * 0 + _ ≤ 8; rw [catS_eq]; omega) hd ⟨by omega, by omega⟩
theorem r_callVN {idx n mc' ms' : Nat} {y : MethodName} {cw : Cond} {As : List AV} {b ci N : Nat} {T : u_T} (hd : decode M.2.1 pc = .ok (.invokevirtual idx, 3)) (hw : CVN M.1.cls idx y cw n) (hn : As.length = n) (hk : kd H b = ci + 1) (hc9 : vwCl[ci]? = some (y.cls, T, N)) (hd1 : 1 ≤ d) (h1 : mc' ≤ rc) (h2 : ms' ≤ rs) (hst : catS st ≤ 8) (hA : AMet G (d - 1) mc' ms' y cw H (vR (some b) :: As) (fun v H' => AW M G d Qr Qx (rc - mc') (rs - ms') H' (pc + 3) ls (v.toList ++ st)) (fun E q H' => AX M G d Qr Qx (rc - mc') (rs - ms') H' pc ls E q)) : AW M G d Qr Qx (rc) (rs) H (pc) ls (As.reverse ++ vR (some b) :: st) := by
  intro mc ms p e R s m args below meth c hC Hc locs arr cells slots hR hS hl ha hc hs
  obtain ⟨⟨cy, maxL, ret, host, rfl, w1, w2, w3, w4, w5, w6⟩, w7, w8⟩ := hw
  have hroom := hC.2.2.2.2.2.2.2.2.2
  refine run_AW (st := st) (a9 := (Value.ref b :: As.map tV).toArray) (mc' := mc') (ms' := ms') hC hS hl ha hc hs h1 h2 ?_
  exact vx_runVN (S := ⟨hC.1, hC.2.1, rfl, hC.2.2.2.1, fun w h => absurd h List.not_mem_nil⟩) (Ts := []) hA ⟨⟨⟨rfl, rfl, (by show d - 1 + 1 ≤ R.frames; have := hC.2.2.2.2.2.2.2; omega), (by show 8 + (maxL + 11) + 64 * (d - 1) ≤ R.locals; have := hC.2.2.2.2.2.2.2; omega), (fun w hw a' U hW => by rw [List.mem_singleton] at hw; subst hw; exact (GW.warm hW hC.2.2.2.2.2.2.2.2.2.2.2.1).2.1 _ w3 _), List.mem_cons_self⟩, hC.2.2.2.2.2.2.2.2.2.2.2.1.2.1 _ w3 _, hC.2.2.2.2.2.2.2.2.2.2.2.1.2.1 _ w2 _, w4, (fun sig hsig => by rw [hsig] at w5; exact (Option.some.inj w5).symm), va_Nw.use rfl (hC.2.2.2.2.2.2.2.2.2.2.2.1.2.2.1 _ w1 rfl)⟩, hC.2.2.2.2.2.2.2.2.2.2.2.1.2.1 _ w7 _, hC.2.2.2.2.2.2.2.2.2.2.2.1.2.1 _ w8 _⟩ (pre_V hC hR hS hk hc9 As) rfl (by rw [List.length_map]; exact hn) ha (by show (List.map tV (As.reverse ++ vR (some b) :: st)) = _; rw [List.map_append, List.map_reverse] <;> rfl) (by show 2 * 0 + _ ≤ 8; rw [catS_eq]; omega) hd ⟨by omega, by omega⟩
theorem r_callSN {idx n mc' ms' : Nat} {y : MethodName} {cw : Cond} {As : List AV} (hd : decode M.2.1 pc = .ok (.invokestatic idx, 3)) (hw : CSN M.1.cls idx y cw n) (hn : As.length = n) (hd1 : 1 ≤ d) (h1 : mc' ≤ rc) (h2 : ms' ≤ rs) (hst : catS st ≤ 8) (hA : AMet G (d - 1) mc' ms' y cw H As (fun v H' => AW M G d Qr Qx (rc - mc') (rs - ms') H' (pc + 3) ls (v.toList ++ st)) (fun E q H' => AX M G d Qr Qx (rc - mc') (rs - ms') H' pc ls E q)) : AW M G d Qr Qx (rc) (rs) H (pc) ls (As.reverse ++ st) := by
  intro mc ms p e R s m args below meth c hC Hc locs arr cells slots hR hS hl ha hc hs
  obtain ⟨⟨cy, maxL, ret, host, rfl, w1, w2, w3, w4, w5, w6⟩, w7⟩ := hw
  have hroom := hC.2.2.2.2.2.2.2.2.2
  refine run_AW (st := st) (a9 := (As.map tV).toArray) (mc' := mc') (ms' := ms') hC hS hl ha hc hs h1 h2 ?_
  exact vx_runSN (S := ⟨hC.1, hC.2.1, rfl, hC.2.2.2.1, fun w h => absurd h List.not_mem_nil⟩) (Ts := []) hA ⟨⟨⟨rfl, rfl, (by show d - 1 + 1 ≤ R.frames; have := hC.2.2.2.2.2.2.2; omega), (by show 8 + (maxL + 11) + 64 * (d - 1) ≤ R.locals; have := hC.2.2.2.2.2.2.2; omega), (fun w hw a' U hW => by rw [List.mem_singleton] at hw; subst hw; exact (GW.warm hW hC.2.2.2.2.2.2.2.2.2.2.2.1).2.1 _ w3 _), List.mem_cons_self⟩, hC.2.2.2.2.2.2.2.2.2.2.2.1.2.1 _ w3 _, hC.2.2.2.2.2.2.2.2.2.2.2.1.2.1 _ w2 _, w4, (fun sig hsig => by rw [hsig] at w5; exact (Option.some.inj w5).symm), va_Nw.use rfl (hC.2.2.2.2.2.2.2.2.2.2.2.1.2.2.1 _ w1 rfl)⟩, hC.2.2.2.2.2.2.2.2.2.2.2.1.2.1 _ w7 _, trivial⟩ (pre_S hC hR hS As) rfl (by rw [List.length_map]; exact hn) ha (by show (List.map tV (As.reverse ++ st)) = _; rw [List.map_append, List.map_reverse] <;> rfl) (by show 2 * 0 + _ ≤ 8; rw [catS_eq]; omega) hd ⟨by omega, by omega⟩
theorem r_callIN {idx n mc' ms' : Nat} {y : MethodName} {cw : Cond} {As : List AV} {b : Nat} (hd : decode M.2.1 pc = .ok (.invokespecial idx, 3)) (hw : CIN M.1.cls idx y cw n) (hn : As.length = n) (hd1 : 1 ≤ d) (h1 : mc' ≤ rc) (h2 : ms' ≤ rs) (hst : catS st ≤ 8) (hA : AMet G (d - 1) mc' ms' y cw H (vR (some b) :: As) (fun v H' => AW M G d Qr Qx (rc - mc') (rs - ms') H' (pc + 3) ls (v.toList ++ st)) (fun E q H' => AX M G d Qr Qx (rc - mc') (rs - ms') H' pc ls E q)) : AW M G d Qr Qx (rc) (rs) H (pc) ls (As.reverse ++ vR (some b) :: st) := by
  intro mc ms p e R s m args below meth c hC Hc locs arr cells slots hR hS hl ha hc hs
  obtain ⟨⟨cy, maxL, ret, host, rfl, w1, w2, w3, w4, w5, w6⟩, w7, w8, ⟨cy2, maxL2, e9⟩⟩ := hw
  cases e9
  have hroom := hC.2.2.2.2.2.2.2.2.2
  refine run_AW (st := st) (a9 := (Value.ref b :: As.map tV).toArray) (mc' := mc') (ms' := ms') hC hS hl ha hc hs h1 h2 ?_
  exact vx_runIN (S := ⟨hC.1, hC.2.1, rfl, hC.2.2.2.1, fun w h => absurd h List.not_mem_nil⟩) (Ts := []) hA ⟨⟨⟨rfl, rfl, (by show d - 1 + 1 ≤ R.frames; have := hC.2.2.2.2.2.2.2; omega), (by show 8 + (maxL + 11) + 64 * (d - 1) ≤ R.locals; have := hC.2.2.2.2.2.2.2; omega), (fun w hw a' U hW => by rw [List.mem_singleton] at hw; subst hw; exact (GW.warm hW hC.2.2.2.2.2.2.2.2.2.2.2.1).2.1 _ w3 _), List.mem_cons_self⟩, hC.2.2.2.2.2.2.2.2.2.2.2.1.2.1 _ w3 _, hC.2.2.2.2.2.2.2.2.2.2.2.1.2.1 _ w2 _, w4, (fun sig hsig => by rw [hsig] at w5; exact (Option.some.inj w5).symm), va_Nw.use rfl (hC.2.2.2.2.2.2.2.2.2.2.2.1.2.2.1 _ w1 rfl)⟩, w7, hC.2.2.2.2.2.2.2.2.2.2.2.1.2.1 _ w8 _⟩ (pre_S hC hR hS (vR (some b) :: As)) rfl (by rw [List.length_map]; exact hn) ha (by show (List.map tV (As.reverse ++ vR (some b) :: st)) = _; rw [List.map_append, List.map_reverse] <;> rfl) (by show 2 * 0 + _ ≤ 8; rw [catS_eq]; omega) hd ⟨by omega, by omega⟩
theorem r_callVX {idx n mc' ms' : Nat} {y : MethodName} {cw : Cond} {As : List AV} {b ci N : Nat} {T : u_T} (hd : decode M.2.1 pc = .ok (.invokevirtual idx, 3)) (hw : CVX M.1.cls idx y cw n) (hn : As.length = n) (hk : kd H b = ci + 1) (hc9 : vwCl[ci]? = some (y.cls, T, N)) (hd1 : 1 ≤ d) (h1 : mc' ≤ rc) (h2 : ms' ≤ rs) (hst : catS st ≤ 8) (hA : AMet G (d - 1) mc' ms' y cw H (vR (some b) :: As) (fun v H' => AW M G d Qr Qx (rc - mc') (rs - ms') H' (pc + 3) ls (v.toList ++ st)) (fun E q H' => AX M G d Qr Qx (rc - mc') (rs - ms') H' pc ls E q)) : AW M G d Qr Qx (rc) (rs) H (pc) ls (As.reverse ++ vR (some b) :: st) := by
  intro mc ms p e R s m args below meth c hC Hc locs arr cells slots hR hS hl ha hc hs
  obtain ⟨⟨cy, maxL, ret, hh, rfl, w1, w2, w3, w4, w5, w6⟩, w7, w8⟩ := hw
  have hroom := hC.2.2.2.2.2.2.2.2.2
  refine run_AW (st := st) (a9 := (Value.ref b :: As.map tV).toArray) (mc' := mc') (ms' := ms') hC hS hl ha hc hs h1 h2 ?_
  exact vx_runVX (S := ⟨hC.1, hC.2.1, rfl, hC.2.2.2.1, fun w h => absurd h List.not_mem_nil⟩) (Ts := []) hA ⟨⟨rfl, rfl, (by show d - 1 + 1 ≤ R.frames; have := hC.2.2.2.2.2.2.2; omega), (by show 8 + (maxL + 11) + 64 * (d - 1) ≤ R.locals; have := hC.2.2.2.2.2.2.2; omega), (fun w hw a' U hW => by rw [List.mem_singleton] at hw; subst hw; exact (GW.warm hW hC.2.2.2.2.2.2.2.2.2.2.2.1).2.1 _ w3 _), List.mem_cons_self⟩, hC.2.2.2.2.2.2.2.2.2.2.2.1.2.1 _ w3 _, hC.2.2.2.2.2.2.2.2.2.2.2.1.2.1 _ w2 _, w4, (fun sig hsig => by rw [hsig] at w5; exact (Option.some.inj w5).symm), hC.2.2.2.2.2.2.2.2.2.2.2.1.2.1 _ w1 _, hC.2.2.2.2.2.2.2.2.2.2.2.1.2.1 _ w7 _, hC.2.2.2.2.2.2.2.2.2.2.2.1.2.1 _ w8 _⟩ (pre_V hC hR hS hk hc9 As) rfl (by rw [List.length_map]; exact hn) ha (by show (List.map tV (As.reverse ++ vR (some b) :: st)) = _; rw [List.map_append, List.map_reverse] <;> rfl) (by show 2 * 0 + _ ≤ 8; rw [catS_eq]; omega) hd ⟨by omega, by omega⟩
theorem r_callSX {idx n mc' ms' : Nat} {y : MethodName} {cw : Cond} {As : List AV} (hd : decode M.2.1 pc = .ok (.invokestatic idx, 3)) (hw : CSX M.1.cls idx y cw n) (hn : As.length = n) (hd1 : 1 ≤ d) (h1 : mc' ≤ rc) (h2 : ms' ≤ rs) (hst : catS st ≤ 8) (hA : AMet G (d - 1) mc' ms' y cw H As (fun v H' => AW M G d Qr Qx (rc - mc') (rs - ms') H' (pc + 3) ls (v.toList ++ st)) (fun E q H' => AX M G d Qr Qx (rc - mc') (rs - ms') H' pc ls E q)) : AW M G d Qr Qx (rc) (rs) H (pc) ls (As.reverse ++ st) := by
  intro mc ms p e R s m args below meth c hC Hc locs arr cells slots hR hS hl ha hc hs
  obtain ⟨⟨cy, maxL, ret, hh, rfl, w1, w2, w3, w4, w5, w6⟩, w7⟩ := hw
  have hroom := hC.2.2.2.2.2.2.2.2.2
  refine run_AW (st := st) (a9 := (As.map tV).toArray) (mc' := mc') (ms' := ms') hC hS hl ha hc hs h1 h2 ?_
  exact vx_runSX (S := ⟨hC.1, hC.2.1, rfl, hC.2.2.2.1, fun w h => absurd h List.not_mem_nil⟩) (Ts := []) hA ⟨⟨rfl, rfl, (by show d - 1 + 1 ≤ R.frames; have := hC.2.2.2.2.2.2.2; omega), (by show 8 + (maxL + 11) + 64 * (d - 1) ≤ R.locals; have := hC.2.2.2.2.2.2.2; omega), (fun w hw a' U hW => by rw [List.mem_singleton] at hw; subst hw; exact (GW.warm hW hC.2.2.2.2.2.2.2.2.2.2.2.1).2.1 _ w3 _), List.mem_cons_self⟩, hC.2.2.2.2.2.2.2.2.2.2.2.1.2.1 _ w3 _, hC.2.2.2.2.2.2.2.2.2.2.2.1.2.1 _ w2 _, w4, (fun sig hsig => by rw [hsig] at w5; exact (Option.some.inj w5).symm), hC.2.2.2.2.2.2.2.2.2.2.2.1.2.1 _ w1 _, hC.2.2.2.2.2.2.2.2.2.2.2.1.2.1 _ w7 _⟩ (pre_S hC hR hS As) rfl (by rw [List.length_map]; exact hn) ha (by show (List.map tV (As.reverse ++ st)) = _; rw [List.map_append, List.map_reverse] <;> rfl) (by show 2 * 0 + _ ≤ 8; rw [catS_eq]; omega) hd ⟨by omega, by omega⟩
theorem decl_D {s : State} {x : MethodName} (h : va_Nw (.declares x) s) : va_Decl s x := Cond.declares_spec h
theorem r_callU {idx n mc' ms' : Nat} {y : MethodName} {cw : Cond} {As : List AV} {b ci N : Nat} {C : String} {x : MethodName} {T : u_T} (hd : decode M.2.1 pc = .ok (.invokevirtual idx, 3)) (hw : CU M.1.cls idx C x y cw n) (hn : As.length = n) (hk : kd H b = ci + 1) (hc9 : vwCl[ci]? = some (C, T, N)) (hd1 : 1 ≤ d) (h1 : mc' ≤ rc) (h2 : ms' ≤ rs) (hst : catS st ≤ 8) (hA : AMet G (d - 1) mc' ms' y cw H (vR (some b) :: As) (fun v H' => AW M G d Qr Qx (rc - mc') (rs - ms') H' (pc + 3) ls (v.toList ++ st)) (fun E q H' => AX M G d Qr Qx (rc - mc') (rs - ms') H' pc ls E q)) : AW M G d Qr Qx (rc) (rs) H (pc) ls (As.reverse ++ vR (some b) :: st) := by
  intro mc ms p e R s m args below meth c hC Hc locs arr cells slots hR hS hl ha hc hs
  obtain ⟨cy, maxL, ret, owner, rfl, w1, wa, wb, wc, w7, w2, w3, w4, w5, w6⟩ := hw
  have hdecl : va_Decl s ⟨owner, x.name, x.desc⟩ := by
    rcases wb with ⟨wb, b9, L9, r9, wb2⟩ | wb
    · exact va_Decl.of (hC.2.2.2.2.2.2.2.2.2.2.2.1.2.1 _ wb #[]) (hC.2.2.2.2.2.2.2.2.2.2.2.1.2.1 _ wb2 #[])
    · exact decl_D (hC.2.2.2.2.2.2.2.2.2.2.2.1.2.2.1 _ wb rfl)
  have hroom := hC.2.2.2.2.2.2.2.2.2
  refine run_AW (st := st) (a9 := (Value.ref b :: As.map tV).toArray) (mc' := mc') (ms' := ms') hC hS hl ha hc hs h1 h2 ?_
  exact vx_runU (S := ⟨hC.1, hC.2.1, rfl, hC.2.2.2.1, fun w h => absurd h List.not_mem_nil⟩) (Ts := []) hA ⟨⟨rfl, rfl, (by show d - 1 + 1 ≤ R.frames; have := hC.2.2.2.2.2.2.2; omega), (by show 8 + (maxL + 11) + 64 * (d - 1) ≤ R.locals; have := hC.2.2.2.2.2.2.2; omega), (fun w hw a' U hW => by rw [List.mem_singleton] at hw; subst hw; exact (GW.warm hW hC.2.2.2.2.2.2.2.2.2.2.2.1).2.1 _ w3 _), List.mem_cons_self⟩, hC.2.2.2.2.2.2.2.2.2.2.2.1.2.1 _ w3 _, hC.2.2.2.2.2.2.2.2.2.2.2.1.2.1 _ w2 _, w4, (fun sig hsig => by rw [hsig] at w5; exact (Option.some.inj w5).symm), hC.2.2.2.2.2.2.2.2.2.2.2.1.2.1 _ w1 _, hC.2.2.2.2.2.2.2.2.2.2.2.1.2.1 _ wa _, hdecl, hC.2.2.2.2.2.2.2.2.2.2.2.1.2.1 _ wc _, hC.2.2.2.2.2.2.2.2.2.2.2.1.2.1 _ w7 _⟩ (pre_V hC hR hS hk hc9 As) rfl (by rw [List.length_map]; exact hn) ha (by show (List.map tV (As.reverse ++ vR (some b) :: st)) = _; rw [List.map_append, List.map_reverse] <;> rfl) (by show 2 * 0 + _ ≤ 8; rw [catS_eq]; omega) hd ⟨by omega, by omega⟩
theorem r_callSU {idx n mc' ms' : Nat} {y : MethodName} {cw : Cond} {As : List AV} {b ci N : Nat} {C : String} {T : u_T} (hd : decode M.2.1 pc = .ok (.invokespecial idx, 3)) (hw : CSU M.1.cls idx y cw n) (hn : As.length = n) (hk : kd H b = ci + 1) (hc9 : vwCl[ci]? = some (C, T, N)) (hd1 : 1 ≤ d) (h1 : mc' ≤ rc) (h2 : ms' ≤ rs) (hst : catS st ≤ 8) (hA : AMet G (d - 1) mc' ms' y cw H (vR (some b) :: As) (fun v H' => AW M G d Qr Qx (rc - mc') (rs - ms') H' (pc + 3) ls (v.toList ++ st)) (fun E q H' => AX M G d Qr Qx (rc - mc') (rs - ms') H' pc ls E q)) : AW M G d Qr Qx (rc) (rs) H (pc) ls (As.reverse ++ vR (some b) :: st) := by
  intro mc ms p e R s m args below meth c hC Hc locs arr cells slots hR hS hl ha hc hs
  obtain ⟨⟨cy, maxL, ret, rfl, w1, w2, w3, w4, w5, w6⟩, wa, wb, w7, w8⟩ := hw
  have hat := (hC.2.2.2.2.2.2.2.2.2.2.2.1.1.1 ci _ hc9).2
  have hroom := hC.2.2.2.2.2.2.2.2.2
  refine run_AW (st := st) (a9 := (Value.ref b :: As.map tV).toArray) (mc' := mc') (ms' := ms') hC hS hl ha hc hs h1 h2 ?_
  exact vx_runSU hat (S := ⟨hC.1, hC.2.1, rfl, hC.2.2.2.1, fun w h => absurd h List.not_mem_nil⟩) (Ts := []) hA ⟨⟨rfl, rfl, (by show d - 1 + 1 ≤ R.frames; have := hC.2.2.2.2.2.2.2; omega), (by show 8 + (maxL + 11) + 64 * (d - 1) ≤ R.locals; have := hC.2.2.2.2.2.2.2; omega), (fun w hw a' U hW => by rw [List.mem_singleton] at hw; subst hw; exact (GW.warm hW hC.2.2.2.2.2.2.2.2.2.2.2.1).2.1 _ w3 _), List.mem_cons_self⟩, hC.2.2.2.2.2.2.2.2.2.2.2.1.2.1 _ w1 _, hC.2.2.2.2.2.2.2.2.2.2.2.1.2.1 _ wa _, hC.2.2.2.2.2.2.2.2.2.2.2.1.2.1 _ wb _, hC.2.2.2.2.2.2.2.2.2.2.2.1.2.1 _ w7 _, hC.2.2.2.2.2.2.2.2.2.2.2.1.2.1 _ w2 _, hC.2.2.2.2.2.2.2.2.2.2.2.1.2.1 _ w3 _, w8, (fun sig hsig => by rw [hsig] at w5; exact (Option.some.inj w5).symm)⟩ (pre_V hC hR hS hk hc9 As) rfl (by rw [List.length_map]; exact hn) ha (by show (List.map tV (As.reverse ++ vR (some b) :: st)) = _; rw [List.map_append, List.map_reverse] <;> rfl) (by show 2 * 0 + _ ≤ 8; rw [catS_eq]; omega) hd ⟨by omega, by omega⟩
theorem r_callF {idx n mc' ms' : Nat} {y : MethodName} {cw : Cond} {As : List AV} {b ci N count : Nat} {C : String} {x : MethodName} {T : u_T} (hd : decode M.2.1 pc = .ok (.invokeinterface idx count, 5)) (hw : CF M.1.cls idx C x y cw n) (hn : As.length = n) (hk : kd H b = ci + 1) (hc9 : vwCl[ci]? = some (C, T, N)) (hd1 : 1 ≤ d) (h1 : mc' ≤ rc) (h2 : ms' ≤ rs) (hst : catS st ≤ 8) (hA : AMet G (d - 1) mc' ms' y cw H (vR (some b) :: As) (fun v H' => AW M G d Qr Qx (rc - mc') (rs - ms') H' (pc + 5) ls (v.toList ++ st)) (fun E q H' => AX M G d Qr Qx (rc - mc') (rs - ms') H' pc ls E q)) : AW M G d Qr Qx (rc) (rs) H (pc) ls (As.reverse ++ vR (some b) :: st) := by
  intro mc ms p e R s m args below meth c hC Hc locs arr cells slots hR hS hl ha hc hs
  obtain ⟨cy, maxL, ret, rfl, w1, wa, wc, w7, w2, w3, w4, w5, w6⟩ := hw
  obtain ⟨f1, f2, f3, f4, f5⟩ := hC.2.2.2.2.2.2.2.2.2.2.2.1.2.2.2.1 _ wa
  have hat := (hC.2.2.2.2.2.2.2.2.2.2.2.1.1.1 ci _ hc9).2
  have hroom := hC.2.2.2.2.2.2.2.2.2
  refine run_AW5 (st := st) (a9 := (Value.ref b :: As.map tV).toArray) (mc' := mc') (ms' := ms') hC hS hl ha hc hs h1 h2 ?_
  exact vx_runF hat (S := ⟨hC.1, hC.2.1, rfl, hC.2.2.2.1, fun w h => absurd h List.not_mem_nil⟩) (Ts := []) hA ⟨⟨rfl, rfl, (by show d - 1 + 1 ≤ R.frames; have := hC.2.2.2.2.2.2.2; omega), (by show 8 + (maxL + 11) + 64 * (d - 1) ≤ R.locals; have := hC.2.2.2.2.2.2.2; omega), (fun w hw a' U hW => by rw [List.mem_singleton] at hw; subst hw; exact (GW.warm hW hC.2.2.2.2.2.2.2.2.2.2.2.1).2.1 _ w3 _), List.mem_cons_self⟩, hC.2.2.2.2.2.2.2.2.2.2.2.1.2.1 _ w1 _, va_tabs rfl rfl f1, va_tabs rfl rfl f2, hC.2.2.2.2.2.2.2.2.2.2.2.1.2.1 _ wc _, hC.2.2.2.2.2.2.2.2.2.2.2.1.2.1 _ w7 _, va_tabs rfl rfl f3, va_tabs rfl rfl f4, va_tabs rfl rfl f5, hC.2.2.2.2.2.2.2.2.2.2.2.1.2.1 _ w2 _, hC.2.2.2.2.2.2.2.2.2.2.2.1.2.1 _ w3 _, w4, (fun sig hsig => by rw [hsig] at w5; exact (Option.some.inj w5).symm)⟩ (pre_V hC hR hS hk hc9 As) rfl (by rw [List.length_map]; exact hn) ha (by show (List.map tV (As.reverse ++ vR (some b) :: st)) = _; rw [List.map_append, List.map_reverse] <;> rfl) (by show 2 * 0 + _ ≤ 8; rw [catS_eq]; omega) hd ⟨by omega, by omega⟩
/-- out of a method whose rows don't cover the place -/
theorem x_out {E : String} {q : Nat} (hno : (tableOf M.2.2.2).all (fun x => !covers x pc) = true) (hx : Qx E q H) : AX M G d Qr Qx rc rs H pc ls E q := by
  intro mc ms p e R s m args below meth c hC Hc locs arr cells slots ce rest hR hS hl ha hc hs hce hcv hcl
  refine vx_out (fun x hx9 => ?_) hC.2.2.2.2.1 hce hcv hcl (fun t ht hv => ⟨H, hx, by rw [ht]; exact hR, hS.F ht⟩) hS.2.2 (by omega) (by omega)
  rw [hC.2.2.2.2.2.2.1] at hx9
  have h9 := List.all_eq_true.mp hno x hx9
  simpa only [Bool.not_eq_true'] using h9
/-- past rows that name other classes -/
theorem x_outP {E : String} {q : Nat} (hno : ∀ x ∈ tableOf M.2.2.2, covers x pc = false ∨ (x.catchType ≠ 0 ∧ ∃ nm, Cond.classLink M.1.cls x.catchType nm ∈ lw_all ∧ (E, nm) ∈ ncL)) (hx : Qx E q H) : AX M G d Qr Qx rc rs H pc ls E q := by
  intro mc ms p e R s m args below meth c hC Hc locs arr cells slots ce rest hR hS hl ha hc hs hce hcv hcl
  refine vx_outP hC.2.2.2.1 hC.2.2.2.2.1 (fun x hx9 => ?_) hce hcv hcl (fun t ht hv => ⟨H, hx, by rw [ht]; exact hR, hS.F ht⟩) hS.2.2 (by omega) (by omega)
  rw [hC.2.2.2.2.2.2.1] at hx9
  rcases hno x hx9 with h | ⟨h1, nm, h2, h3⟩
  · exact Or.inl h
  · exact Or.inr ⟨h1, nm, hC.2.2.2.2.2.2.2.2.2.2.2.1.2.1 _ h2 _, hC.2.2.2.2.2.2.2.2.2.2.2.1.2.2.2.2.1 (E, nm) h3⟩
/-- caught by the row x -/
theorem x_catch {E name : String} {q : Nat} (pre : List ExceptionTableEntry) (x : ExceptionTableEntry) (suf : List ExceptionTableEntry) (hsplit : tableOf M.2.2.2 = pre ++ x :: suf) (hpass : ∀ z ∈ pre, covers z pc = false ∨ (z.catchType ≠ 0 ∧ ∃ nm, Cond.classLink M.1.cls z.catchType nm ∈ lw_all ∧ (E, nm) ∈ ncL)) (hcov : covers x pc = true) (h0 : x.catchType ≠ 0)
    (hlink : Cond.classLink M.1.cls x.catchType name ∈ lw_all) (hcast : Cond.castable E name ∈ lw_tbl) (k : AW M G d Qr Qx rc rs H x.handlerPc ls [vR (some q)]) : AX M G d Qr Qx rc rs H pc ls E q := by
  intro mc ms p e R s m args below meth c hC Hc locs arr cells slots ce rest hR hS hl ha hc hs hce hcv hcl
  refine vx_catch (own := M.1.cls) (name := name) hC.2.2.2.1 pre x suf (hC.2.2.2.2.2.2.1.trans hsplit) (fun z hz => ?_) hcov h0 (hC.2.2.2.2.2.2.2.2.2.2.2.1.2.1 _ hlink _) (va_Nw.use rfl (hC.2.2.2.2.2.2.2.2.2.2.2.1.2.2.1 _ hcast rfl)) hce hcv hcl (k mc ms p e R s m args below meth c hC Hc locs arr cells slots hR hS hl ha hc hs)
  rcases hpass z hz with h | ⟨h1, nm, h2, h3⟩
  · exact Or.inl h
  · exact Or.inr ⟨h1, nm, hC.2.2.2.2.2.2.2.2.2.2.2.1.2.1 _ h2 _, hC.2.2.2.2.2.2.2.2.2.2.2.1.2.2.2.2.1 (E, nm) h3⟩
/-- athrow of an object of ours -/
theorem r_athrow {q ci N : Nat} {E : String} {T : u_T} (hd : decode M.2.1 pc = .ok (.athrow, 1)) (hk : kd H q = ci + 1) (hc9 : vwCl[ci]? = some (E, T, N)) (k : AX M G d Qr Qx rc rs H pc ls E q) : AW M G d Qr Qx rc rs H pc ls (vR (some q) :: st) := by
  intro mc ms p e R s m args below meth c hC Hc locs arr cells slots hR hS hl ha hc hs
  have hR0 := hR
  obtain ⟨ws, hP, hD, hcov⟩ := hR
  obtain ⟨j, hj⟩ := hcov.1 q (by omega)
  have hlt : ci < 28 := (List.getElem?_eq_some_iff.mp hc9).1
  rw [cellOf_obj hk (by omega)] at hj
  obtain ⟨r, g1, cell, g2, g3, g4, g5⟩ := hP j _ hj
  cases Option.some.inj (g1.symm.trans hc9)
  have hfc := (hC.2.2.2.2.2.2.2.2.2.2.2.1.1.1 ci _ hc9).2.1
  exact vx_athrow hC.1 hC.2.1 hd (k mc ms p e R s m args below meth c hC Hc locs arr cells slots cell (st.map tV) hR0 hS hl ha hc hs g2 g4 (by rw [g3]; exact hfc))
/-- 'throw new E()' of the JDK's, out of the method -/
theorem r_throw0 {cls : String} {names : List String} {ik ic : Nat} (hcls : Bundle.fit cls = true) (hnames : ∀ n ∈ names, Bundle.fit n = true) (hk : Cond.classLink M.1.cls ik cls ∈ lw_all) (hini : Cond.initialized cls ∈ lw_all) (hat : ∀ w ∈ vx_at0 M.1.cls ic cls names, w ∈ lw_all) (hgood : ∀ w ∈ Cond.classLink M.1.cls ik cls :: Cond.initialized cls :: vx_at0 M.1.cls ic cls names, vx_ot w = true)
    (d0 : decode M.2.1 pc = .ok (.new ik, 3)) (d3 : decode M.2.1 (pc + 3) = .ok (.dup, 1)) (d4 : decode M.2.1 (pc + 4) = .ok (.invokespecial ic, 3)) (d7 : decode M.2.1 (pc + 7) = .ok (.athrow, 1)) (hno : (tableOf M.2.2.2).all (fun x => !covers x (pc + 7)) = true)
    (hlen : names.length + 4 ≤ d) (hst : catS st ≤ 8) (h1 : 1 ≤ rc) (h2 : 6 ≤ rs) (hx : ∀ q, Qx cls q H) : AW M G d Qr Qx rc rs H pc ls st := by
  intro mc ms p e R s m args below meth c hC Hc locs arr cells slots hR hS hl ha hc hs
  have hG : GW G s := hC.2.2.2.2.2.2.2.2.2.2.2.1
  have hroom := hC.2.2.2.2.2.2.2
  refine vx_throw0 (A := gBase G) hC.1 hC.2.1 hC.2.2.2.2.2.2.2.2.2.2.2.2.2.2 hC.2.2.2.1 hcls hnames (hG.2.1 _ hk _) (hG.2.1 _ hini _) (fun w hw => hG.2.1 _ (hat w hw) _) hgood hC.2.2.2.2.2.2.2.2.2.2.2.2.1.2.2.2.2.2.2.2.1 hC.2.2.2.2.2.2.2.2.2.2.2.2.1.2.2.2.2.2.2.2.2 hS ha d0 d3 d4 d7 (fun x hx9 => ?_) (by omega) ?_ (by omega) (by omega) hC.2.2.2.2.1 (fun q9 t hv hz hq => ⟨H, hx q9, ?_, ?_⟩) hS.2.2 (by omega) (by omega)
  · rw [hC.2.2.2.2.2.2.1] at hx9
    have h9 := List.all_eq_true.mp hno x hx9
    simpa only [Bool.not_eq_true'] using h9
  · rw [catS_eq]
    omega
  · obtain ⟨ws, hP, hD, hcov⟩ := hR
    exact ⟨ws, hP.kept (fun k q hk9 => hq q.1 (hP k q hk9).lt), hD, hcov.1, hcov.2.kept (fun a cell ha9 => ⟨cell, by rw [hq a (Array.getElem?_eq_some_iff.mp ha9).1]; exact ha9, rfl⟩)⟩
  · exact ⟨Nat.le_trans hS.1 hz, fun q h3 h4 => by rw [hq q (Nat.lt_of_lt_of_le h3 hS.1)]; exact hS.2.1 q h3 h4⟩
end R6
