set_option maxRecDepth 100000
/-! exceptions: contracts of calls that throw (the heap's old cells are untouched), and of methods with handlers -/
def exN : List String := ["java/lang/RuntimeException", "java/lang/Exception"]
abbrev pb_X (w : pb_W) (l : Launch) (y : MethodName) (cc : ByteArray) (nL : Nat) (ret : Option FieldType) (d mc ms : Nat) (as : List Value) (H : Heap) (E : String) : Prop :=
  vx_Met l y (ws_ y cc nL ret) (pb_rm d mc ms) (pb_P w as H) (fun _ _ _ _ => False) (fun E' _ t => E' = E ∧ pb_F (fun _ => True) H t.heap) mc ms (fun q => w.2.2.2 ≤ q)
abbrev pb_EX (w : pb_W) (below : List Frame) (args : Array Value) (s : State) (mc ms : Nat) (H : Heap) (E : String) : State → Prop :=
  vx_MQ below (fun _ _ _ _ => False) (fun E' _ t => E' = E ∧ pb_F (fun _ => True) H t.heap) args s mc ms (fun q => w.2.2.2 ≤ q)
theorem pb_ofX {w : pb_W} {l : Launch} {y : MethodName} {cc : ByteArray} {nL : Nat} {ret : Option FieldType} {d mc ms : Nat} {as : List Value} {H : Heap} {E : String}
    (hy : plainName y.cls = true) (hn : (lg_sl as).length ≤ nL)
    (body : ∀ p e s m args below meth c ls, pb_C w p s m meth c args cc nL y.cls y.name ret → s.heap = H → pb_G w s H → lv_has ls nL (lv_args 0 as) → (∀ x ∈ c.exceptionTable.toList, False) →
      pb_V w.2.2.2 p l e (pb_rm d mc ms) s m args below meth c H mc ms (pb_EX w below args s mc ms H E) (F0 m 0 ls [])) : pb_X w l y cc nL ret d mc ms as H E := by
  refine vx_ofW (cc := cc) (maxL := nL) (ret := ret) hy rfl ?_
  intro p e s m args below meth c s₁ B hml ht hv
  obtain ⟨rfl, hh, hK, hG⟩ := hv
  have hts := atoms_spec (ws := ws_ y cc nL ret) B.pre
  have hts : ∀ w ∈ lw_all, w.before as.toArray s = true := fun w h => hts w (List.mem_cons_of_mem _ h)
  rw [lg_entry_eq, hh]
  exact body p e s m as.toArray below meth c _ ⟨B.exec, B.bytes, hml, findClass_of_methodNamed B.named, hts, B.returns, B.notSynchronized, (name_of_methodNamed B.named B.method).1, hK⟩ hh hG (lv_entry as hn) ht [] 0 0 (fun _ h => nomatch h) (Nat.le_of_eq (Nat.zero_add mc)) (Nat.le_of_eq (Nat.zero_add ms))
theorem pb_F.all {H H1 : Heap} (h : pb_F (fun q => q < H.size) H H1) : pb_F (fun _ => True) H H1 := ⟨h.1, fun q hq _ => h.2 q hq hq⟩
theorem pb_F.trz {P : Nat → Prop} {H H1 H2 : Heap} (h : pb_F (fun _ => True) H H1) (h2 : pb_F P H1 H2) (hp : ∀ q, q < H.size → P q) : pb_F (fun _ => True) H H2 :=
  ⟨Nat.le_trans h.1 h2.1, fun q hq _ => (h2.2 q (Nat.lt_of_lt_of_le hq h.1) (hp q hq)).trans (h.2 q hq trivial)⟩
/-- what the tables say of 'throw new E()' -/
def pb_XW (own E : String) (ik ic : Nat) : Prop :=
  Bundle.fit E = true ∧ (∀ n ∈ exN, Bundle.fit n = true) ∧ Cond.classLink own ik E ∈ lw_all ∧ Cond.initialized E ∈ lw_all ∧ (∀ q ∈ vx_at0 own ic E exN, q ∈ lw_all ∨ (q ∈ lw_tbl ∧ pb_nw q = true)) ∧ (∀ q ∈ Cond.classLink own ik E :: Cond.initialized E :: vx_at0 own ic E exN, vx_ot q = true)
def pb_RunX (zs : Nat) (p : Program) (l : Launch) (e : Env) (R : Room) (s : State) (m : MethodId) (args : Array Value) (below : List Frame) (meth : Method) (c : Code) (H : Heap) (mc ms : Nat) (g : JFrame) (rest : List Value) (E : String) : Prop :=
  ∀ (locs : List Loc) (cells slots : Nat) (T : State), cells + mc ≤ R.cells → slots + ms ≤ R.slots → T.heap = H → Stand p l e R s m args below meth c T locs cells slots →
    ∃ (q : Addr) (T' : State) (L : List Loc) (ce : Cell), Stand p l e R s m args below meth c T' (locs ++ L) (cells + mc) (slots + ms) ∧ (∀ z ∈ L, zs ≤ z.base) ∧ pb_F (fun _ => True) H T'.heap ∧ T'.heap[q]? = some ce ∧ ce.vm = .none ∧ s.vm.findClass E = some ce.cls ∧ Steps p.tables e below (T.setTop g) ((T'.setTop { g with stack := rest }).pushFrame (.throwing q))
section PBX
variable {zs : Nat} {p : Program} {l : Launch} {e : Env} {R : Room} {s : State} {m : MethodId} {args : Array Value} {below : List Frame} {meth : Method} {c : Code} {H H0 : Heap} {bc bs : Nat} {Q : State → Prop}
variable {w : pb_W} {cc : ByteArray} {nL : Nat} {own nm : String} {ret : Option FieldType} {pc : Nat} {ls : Array Slot} {rest st0 : List Value}
variable {y : MethodName} {bytes : ByteArray} {maxL index n d mc ms : Nat} {ret' : Option FieldType} {As : List Value} {b : Nat} {E : String}
theorem pb_throw {own : String} {ik ic MC MS d9 : Nat} (C : pb_C w p s m meth c args cc nL own nm ret) (hl : l.stackTraces = false) (hh : s.heap = H0) (hG0 : pb_G w s H0) (hF : pb_F (fun _ => True) H0 H) (hT : ∀ x ∈ c.exceptionTable.toList, False) (hX : pb_XW own E ik ic) (hls : ls.size = nL) (hd : 6 ≤ d9) (hW : (rest.map fun v => v.category).sum + 81 ≤ 64 * d9) (hbc : 1 ≤ bc) (hbs : 6 ≤ bs)
    (d0 : decode cc pc = .ok (.new ik, 3)) (d3 : decode cc (pc + 3) = .ok (.dup, 1)) (d4 : decode cc (pc + 4) = .ok (.invokespecial ic, 3)) (d7 : decode cc (pc + 7) = .ok (.athrow, 1)) :
    pb_V w.2.2.2 p l e (pb_rm d9 MC MS) s m args below meth c H bc bs (pb_EX w below args s MC MS H0 E) (F0 m pc ls rest) := by
  intro locs cells slots a1 b1 c1
  have b1 : cells + bc ≤ MC := b1
  have c1 : slots + bs ≤ MS := c1
  obtain ⟨x1, x2, x3, x4, x5, x6⟩ := hX
  subst hh
  obtain ⟨-, -, -, -, -, -, -, -, -, -, -, -, -, -, -, hU, hN⟩ := hG0
  have hat : ∀ q ∈ vx_at0 own ic E exN, q.before args s = true := by
    intro q hq
    rcases x5 q hq with h | ⟨h, hn⟩
    · exact C.2.2.2.2.1 q h
    · have h9 : va_Nw q s := C.2.2.2.2.2.2.2.2.2.1 q h hn
      cases q <;> first | exact (Bool.false_ne_true hn).elim | exact va_Nw.use rfl h9
  refine vx_throw0 (A := fun q => w.2.2.2 ≤ q) C.1 C.2.1 hl C.2.2.2.1 x1 x2 (C.2.2.2.2.1 _ x3) (C.2.2.2.2.1 _ x4) hat x6 hU hN ⟨hF.1, fun q hq _ => hF.2 q hq trivial, a1⟩ (hls.trans C.2.2.1.symm) d0 d3 d4 d7 (fun x hx => (hT x hx).elim) (show 2 + 3 < d9 from by omega) (show _ + (13 * (2 + 1) + 42) ≤ 64 * d9 from by omega) (show cells + 1 ≤ MC from by omega) (show slots + 6 ≤ MS from by omega) C.2.2.2.2.2.2.1 (fun t _ h1 h2 => ⟨rfl, hF.tr ⟨h1, fun q hq _ => h2 q hq⟩⟩) a1 (by omega) (by omega)
theorem pb_RunX.of {g : JFrame} (h : ∀ (locs : List Loc) (cells slots : Nat), cells + mc ≤ R.cells ∧ slots + ms ≤ R.slots → vx_Run p l e R s m args below meth c H locs cells slots mc ms g rest (fun _ _ _ => False) (fun E' _ t => E' = E ∧ pb_F (fun _ => True) H t.heap) (fun q => zs ≤ q)) : pb_RunX zs p l e R s m args below meth c H mc ms g rest E := by
  intro locs cells slots T h1 h2 hT X
  rcases h locs cells slots ⟨h1, h2⟩ T hT X with ⟨v, st₀, t, T', L, -, X', hL, e1, e2, hf, st⟩ | ⟨q, st₀, t, T', L, E', ce, h0, X', hL, e1, e2, ⟨rfl, hF⟩, hce, hcv, hcl, st⟩
  · exact hf.elim
  · exact ⟨q, T', L, ce, X', hL, by rw [e1]; exact hF, by rw [e1]; exact hce, hcv, hcl, st⟩
theorem pb_runSX (C : pb_C w p s m meth c args cc nL own nm ret) (hG : pb_G w s H) (hM : pb_X w l y bytes maxL ret' d mc ms As H E) (hw : GoodIn lw_all (va_wsS own index y (ws_ y bytes maxL ret'))) (hd : y.cls ≠ "java/lang/invoke/MethodHandle" ∧ y.cls ≠ "java/lang/invoke/VarHandle" ∧ (parseMethodDescriptor y.desc).map (fun d => d.parameters.length) = some n) (hn : As.length = n) (hls : ls.size = nL) (hst : st0 = As.reverse ++ rest) (hW : (rest.map fun v => v.category).sum ≤ 8) (hR : d + 1 ≤ R.frames ∧ 8 + (maxL + 11) + 64 * d ≤ R.locals) (hdg : decode cc pc = .ok (.invokestatic index, 3)) :
    pb_RunX w.2.2.2 p l e R s m args below meth c H mc ms (F0 m pc ls st0) rest E := by
  refine pb_RunX.of fun locs cells slots hf => ?_
  exact vx_runS (As := As) (rest := rest) ⟨C.1, C.2.1, C.2.2.1, C.2.2.2.1, C.2.2.2.2.1⟩ hM (va_cwS n C.2.2.2.2.1 hw rfl rfl rfl hd hR) (pb_pre C hG) rfl hn hls hst (by show 2 * 0 + _ ≤ 8; omega) hdg hf
theorem pb_runVX (C : pb_C w p s m meth c args cc nL own nm ret) (hG : pb_G w s H) (hM : pb_X w l y bytes maxL ret' d mc ms (.ref b :: As) H E) {Cn : String} {T : u_T} {N ci : Nat} {fs : List Value} (hO : pb_R w H b ci fs) (hc : pb_cl[ci]? = some (Cn, T, N)) (hw : GoodIn lw_all (wsV own index Cn y (ws_ y bytes maxL ret'))) (hd : y.cls = Cn ∧ y.cls ≠ "java/lang/invoke/MethodHandle" ∧ y.cls ≠ "java/lang/invoke/VarHandle" ∧ (parseMethodDescriptor y.desc).map (fun d => d.parameters.length) = some n) (hn : As.length = n) (hls : ls.size = nL) (hst : st0 = As.reverse ++ .ref b :: rest) (hW : (rest.map fun v => v.category).sum ≤ 8) (hR : d + 1 ≤ R.frames ∧ 8 + (maxL + 11) + 64 * d ≤ R.locals) (hdg : decode cc pc = .ok (.invokevirtual index, 3)) :
    pb_RunX w.2.2.2 p l e R s m args below meth c H mc ms (F0 m pc ls st0) rest E := by
  refine pb_RunX.of fun locs cells slots hf => ?_
  exact vx_runV (As := As) (rest := rest) ⟨C.1, C.2.1, C.2.2.1, C.2.2.2.1, C.2.2.2.2.1⟩ hM (cwV n C.2.2.2.2.1 hw rfl rfl rfl hd hR) ⟨(pb_pre C hG).1, pb_recv C hO hc, (pb_pre C hG).2⟩ rfl hn hls hst (by show 2 * 0 + _ ≤ 8; omega) hdg hf
/-- the call's exception goes on to the caller -/
theorem pb_outX {MC MS d9 : Nat} (C : pb_C w p s m meth c args cc nL own nm ret) (hF : pb_F (fun _ => True) H0 H) (hT : ∀ x ∈ c.exceptionTable.toList, False) (hr : pb_RunX w.2.2.2 p l e (pb_rm d9 MC MS) s m args below meth c H mc ms (F0 m pc ls st0) rest E) (hbc : mc ≤ bc) (hbs : ms ≤ bs) :
    pb_V w.2.2.2 p l e (pb_rm d9 MC MS) s m args below meth c H bc bs (pb_EX w below args s MC MS H0 E) (F0 m pc ls st0) := by
  intro locs cells slots a1 b1 c1 T hT' X
  have b1 : cells + bc ≤ MC := b1
  have c1 : slots + bs ≤ MS := c1
  obtain ⟨q, T', L, ce, X', hL, hF2, hce, hcv, hcl, st⟩ := hr locs cells slots T (show cells + mc ≤ MC from by omega) (show slots + ms ≤ MS from by omega) hT' X
  obtain ⟨t, a2, b2⟩ := vx_out (Qc := fun _ _ _ _ => False) (XC := fun E' _ t => E' = E ∧ pb_F (fun _ => True) H0 t.heap) (free := fun q => w.2.2.2 ≤ q) (mc := MC) (ms := MS) (ls := ls) (rest := rest) (pc := pc) (fun x hx => (hT x hx).elim) C.2.2.2.2.2.2.1 hce hcv hcl (fun t ht _ => ⟨rfl, by rw [ht]; exact hF.tr hF2⟩) (fun z hz => by
    rcases List.mem_append.mp hz with h | h
    · exact a1 z h
    · exact hL z h) (show cells + mc ≤ MC from by omega) (show slots + ms ≤ MS from by omega) T' rfl X'
  exact ⟨t, st.trans a2, b2⟩
/-- the classes that a handler names and the exception hasn't -/
def pb_Nc (U : State) : Prop := ∀ q ∈ [("java/lang/IllegalArgumentException", "java/lang/IndexOutOfBoundsException"), ("java/lang/IllegalStateException", "java/lang/IndexOutOfBoundsException"), ("java/lang/IllegalArgumentException", "java/lang/IllegalStateException"), ("java/util/NoSuchElementException", "java/lang/IndexOutOfBoundsException"), ("java/util/NoSuchElementException", "java/lang/IllegalArgumentException"), ("java/lang/ArithmeticException", "java/lang/IndexOutOfBoundsException")], va_Nc q.1 q.2 U
theorem pb_Nc.moved {u U : State} (hvm : u.vm.Alike U.vm) (h : pb_Nc u) : pb_Nc U := fun q hq => va_Nc.moved hvm (h q hq)
/-- the call's exception is caught -/
theorem pb_catch {bc' bs' : Nat} {name : String} (C : pb_C w p s m meth c args cc nL own nm ret) (hr : pb_RunX zs p l e R s m args below meth c H mc ms (F0 m pc ls st0) rest E) (hbc : mc + bc' ≤ bc) (hbs : ms + bs' ≤ bs) (pre : List ExceptionTableEntry) (x : ExceptionTableEntry) (suf : List ExceptionTableEntry) (hsplit : c.exceptionTable.toList = pre ++ x :: suf)
    (hpass : ∀ z ∈ pre, z.catchType ≠ 0 ∧ ∃ nm : String, Cond.classLink own z.catchType nm ∈ lw_all ∧ va_Nc E nm s) (hx : covers x pc = true) (h0 : x.catchType ≠ 0) (hlink : Cond.classLink own x.catchType name ∈ lw_all) (hcast : Cond.castable E name ∈ lw_tbl)
    (kk : ∀ (q : Nat) (H1 : Heap), pb_F (fun _ => True) H H1 → pb_V zs p l e R s m args below meth c H1 bc' bs' Q (F0 m x.handlerPc ls [.ref q])) : pb_V zs p l e R s m args below meth c H bc bs Q (F0 m pc ls st0) := by
  intro locs cells slots a1 b1 c1 T hT' X
  obtain ⟨q, T', L, ce, X', hL, hF2, hce, hcv, hcl, st⟩ := hr locs cells slots T (by omega) (by omega) hT' X
  have h9 : va_Nw (.castable E name) s := C.2.2.2.2.2.2.2.2.2.1 _ hcast rfl
  obtain ⟨t, a2, b2⟩ := vx_catch (Q := Q) (ls := ls) (rest := rest) (pc := pc) C.2.2.2.1 pre x suf hsplit (fun z hz => Or.inr (by
    obtain ⟨h1, nm9, h2, h3⟩ := hpass z hz
    exact ⟨h1, nm9, C.2.2.2.2.1 _ h2, h3⟩)) hx h0 (C.2.2.2.2.1 _ hlink) (va_Nw.use rfl h9) hce hcv hcl (kk q T'.heap hF2 (locs ++ L) (cells + mc) (slots + ms) (fun z hz => by
    rcases List.mem_append.mp hz with h | h
    · exact a1 z h
    · exact hL z h) (by omega) (by omega)) T' rfl X'
  exact ⟨t, st.trans a2, b2⟩
end PBX
/-- a method with handlers that returns -/
def pb_PW (w : pb_W) (as : List Value) (H : Heap) : Array Value → State → Prop := fun v U => pb_P w as H v U ∧ pb_Nc U
abbrev pb_MW (w : pb_W) (l : Launch) (y : MethodName) (cc : ByteArray) (nL : Nat) (ret : Option FieldType) (hh : List (Nat × Nat × Nat × Nat)) (d mc ms : Nat) (as : List Value) (H : Heap) (post : Option Value → Heap → Prop) : Prop :=
  Met l y (wsW_ y cc nL ret hh) (pb_rm d mc ms) (pb_PW w as H) (pb_Q post) mc ms (fun q => w.2.2.2 ≤ q)
theorem pb_PW.blind {w : pb_W} {as : List Value} {H : Heap} : FrameBlind (pb_PW w as H) := fun a U g mk h => ⟨pb_P.blind a U g mk h.1, pb_Nc.moved (Vm.Alike.refl U.vm) h.2⟩
theorem pb_ofWH {w : pb_W} {l : Launch} {y : MethodName} {cc : ByteArray} {nL : Nat} {ret : Option FieldType} {tt : List (Nat × Nat × Nat × Nat)} {d mc ms : Nat} {as : List Value} {H : Heap} {post : Option Value → Heap → Prop}
    (hy : plainName y.cls = true) (hn : (lg_sl as).length ≤ nL)
    (body : ∀ p e s m args below meth c ls, pb_C w p s m meth c args cc nL y.cls y.name ret → s.heap = H → pb_G w s H → lv_has ls nL (lv_args 0 as) → c.exceptionTable.toList = tableOf tt → pb_Nc s →
      pb_V w.2.2.2 p l e (pb_rm d mc ms) s m args below meth c H mc ms (MQ below (pb_Q post) args s mc ms (fun q => w.2.2.2 ≤ q)) (F0 m 0 ls [])) : pb_MW w l y cc nL ret tt d mc ms as H post := by
  have hV : vx_Met l y (wsW_ y cc nL ret tt) (pb_rm d mc ms) (pb_PW w as H) (pb_Q post) (fun _ _ _ => False) mc ms (fun q => w.2.2.2 ≤ q) := by
    refine vx_ofWH (cc := cc) (maxL := nL) (ret := ret) (hh := tt) hy rfl ?_
    intro p e s m args below meth c s₁ B hml hv
    obtain ⟨⟨rfl, hh, hK, hG⟩, hN⟩ := hv
    have hts := atoms_spec (ws := wsW_ y cc nL ret tt) B.pre
    have htb := vx_table (x := y) B (hts _ List.mem_cons_self)
    have hts : ∀ w ∈ lw_all, w.before as.toArray s = true := fun w h => hts w (List.mem_cons_of_mem _ h)
    rw [lg_entry_eq, hh]
    exact vx_ret (body p e s m as.toArray below meth c _ ⟨B.exec, B.bytes, hml, findClass_of_methodNamed B.named, hts, B.returns, B.notSynchronized, (name_of_methodNamed B.named B.method).1, hK⟩ hh hG (lv_entry as hn) htb hN [] 0 0 (fun _ h => nomatch h) (Nat.le_of_eq (Nat.zero_add mc)) (Nat.le_of_eq (Nat.zero_add ms)))
  intro p e ha hc hk s m args below hf hap hP hK
  obtain ⟨n, o, h1, h2, h3, h4⟩ := hV p e ha hc hk s m args below hf hap hP hK
  refine ⟨n, o, h1, h2, h3, ?_⟩
  rcases h4 with h4 | ⟨q, -, E, ce, L, hx, -⟩
  · exact h4
  · exact hx.elim
section PBY
variable {zs : Nat} {p : Program} {l : Launch} {e : Env} {R : Room} {s : State} {m : MethodId} {args : Array Value} {below : List Frame} {meth : Method} {c : Code} {H H0 : Heap} {bc bs : Nat} {Q : State → Prop}
variable {w : pb_W} {cc : ByteArray} {nL : Nat} {own nm : String} {ret : Option FieldType} {pc : Nat} {ls : Array Slot} {rest st0 : List Value}
variable {y : MethodName} {bytes : ByteArray} {maxL index n d mc ms : Nat} {ret' : Option FieldType} {As : List Value} {b : Nat} {post : Option Value → Heap → Prop} {tt : List (Nat × Nat × Nat × Nat)}
theorem pb_runSW (C : pb_C w p s m meth c args cc nL own nm ret) (hG : pb_G w s H) (hN : pb_Nc s) (hM : pb_MW w l y bytes maxL ret' tt d mc ms As H post) (hw : GoodIn lw_all (va_wsS own index y (wsW_ y bytes maxL ret' tt))) (hd : y.cls ≠ "java/lang/invoke/MethodHandle" ∧ y.cls ≠ "java/lang/invoke/VarHandle" ∧ (parseMethodDescriptor y.desc).map (fun d => d.parameters.length) = some n) (hn : As.length = n) (hls : ls.size = nL) (hst : st0 = As.reverse ++ rest) (hW : (rest.map fun v => v.category).sum ≤ 8) (hR : d + 1 ≤ R.frames ∧ 8 + (maxL + 11) + 64 * d ≤ R.locals) (hdg : decode cc pc = .ok (.invokestatic index, 3)) :
    pb_Run w.2.2.2 p l e R s m args below meth c H mc ms (F0 m pc ls st0) 3 rest post := by
  refine pb_Run.of (a := As.toArray) fun locs cells slots hf => ?_
  exact vx_runSW (As := As) (rest := rest) ⟨C.1, C.2.1, C.2.2.1, C.2.2.2.1, C.2.2.2.2.1⟩ hM (vx_cwSW n C.2.2.2.2.1 hw rfl rfl rfl hd hR) ⟨pb_PW.blind, fun U hU hW => ⟨(pb_pre C hG).2 U hU hW, hN.moved hW.alike⟩⟩ rfl hn hls hst (by show 2 * 0 + _ ≤ 8; omega) hdg hf
end PBY
