set_option maxRecDepth 100000
theorem pb_Up.z {a z : Nat} {H H1 : Heap} (h : pb_Up a H H1) (hz : z ≤ a) : pb_F (fun q => q < z) H H1 := h.f.mono fun q _ hq => by omega
theorem pb_Nx.z {P : Nat → Prop} {H H1 : Heap} (h : pb_Nx H H1) : pb_F P H H1 := h.f.mono fun _ _ _ => trivial
def pb_qn (H0 : Heap) : Option Value → Heap → Prop := fun v H => v = none ∧ H = H0
def pb_ql (post : Int → Heap → Prop) : Option Value → Heap → Prop := fun v H => ∃ z : Int, v = some (.long (lZ z)) ∧ post z H
def pb_qq (post : Value → Heap → Prop) : Option Value → Heap → Prop := fun v H => ∃ z : Value, v = some z ∧ post z H
def pb_Run (zs : Nat) (p : Program) (l : Launch) (e : Env) (R : Room) (s : State) (m : MethodId) (args : Array Value) (below : List Frame) (meth : Method) (c : Code) (H : Heap) (mc ms : Nat) (g : JFrame) (len : Nat) (rest : List Value) (Qh : Option Value → Heap → Prop) : Prop :=
  ∀ (locs : List Loc) (cells slots : Nat) (T : State), cells + mc ≤ R.cells → slots + ms ≤ R.slots → T.heap = H → Stand p l e R s m args below meth c T locs cells slots →
    ∃ (v : Option Value) (T' : State) (L : List Loc), Stand p l e R s m args below meth c T' (locs ++ L) (cells + mc) (slots + ms) ∧ (∀ q ∈ L, zs ≤ q.base) ∧ Qh v T'.heap ∧ Goes p e below T g T' { g with pc := g.pc + len, stack := v.toList ++ rest }
section PBC
variable {zs : Nat} {p : Program} {l : Launch} {e : Env} {R : Room} {s : State} {m : MethodId} {args : Array Value} {below : List Frame} {meth : Method} {c : Code} {H : Heap} {bc bs : Nat} {Q : State → Prop}
variable {w : pb_W} {cc : ByteArray} {nL : Nat} {own nm : String} {ret : Option FieldType} {pc : Nat} {ls : Array Slot} {rest st0 : List Value}
variable {y : MethodName} {bytes : ByteArray} {maxL index n d mc ms : Nat} {ret' : Option FieldType} {As : List Value} {b : Nat} {post : Option Value → Heap → Prop}
theorem pb_Run.of {g : JFrame} {a : Array Value} (h : ∀ (locs : List Loc) (cells slots : Nat), cells + mc ≤ R.cells ∧ slots + ms ≤ R.slots → va_Run p l e R s m args below meth c H locs cells slots mc ms g rest (pb_Q post a) (fun q => zs ≤ q)) : pb_Run zs p l e R s m args below meth c H mc ms g 3 rest post := by
  intro locs cells slots T h1 h2 hT X
  obtain ⟨v, st₀, t, T', L, -, X', hL, e1, e2, ⟨v', hv, hq⟩, st⟩ := h locs cells slots ⟨h1, h2⟩ T hT X
  cases hv
  exact ⟨_, T', L, X', hL, by rw [e1]; exact hq, st⟩
theorem pb_Run.of5 {g : JFrame} {a : Array Value} (h : ∀ (locs : List Loc) (cells slots : Nat), cells + mc ≤ R.cells ∧ slots + ms ≤ R.slots → va_Run5 p l e R s m args below meth c H locs cells slots mc ms g rest (pb_Q post a) (fun q => zs ≤ q)) : pb_Run zs p l e R s m args below meth c H mc ms g 5 rest post := by
  intro locs cells slots T h1 h2 hT X
  obtain ⟨v, st₀, t, T', L, -, X', hL, e1, e2, ⟨v', hv, hq⟩, st⟩ := h locs cells slots ⟨h1, h2⟩ T hT X
  cases hv
  exact ⟨_, T', L, X', hL, by rw [e1]; exact hq, st⟩
theorem pb_pre (C : pb_C w p s m meth c args cc nL own nm ret) (hG : pb_G w s H) : PreS s H (pb_P w As H) As := ⟨pb_P.blind, fun _ hU hW => ⟨rfl, hU, pb_K.moved hW C.2.2.2.2.2.2.2.2, pb_G.moved hW.alike hG⟩⟩
/-- the receiver's class -/
theorem pb_recv (C : pb_C w p s m meth c args cc nL own nm ret) {Cn : String} {T : u_T} {N ci a : Nat} {fs : List Value} (hO : pb_R w H a ci fs) (hc : pb_cl[ci]? = some (Cn, T, N)) : ∃ cell : Cell, H[a]? = some cell ∧ cell.vm.isStatics = false ∧ s.vm.findClass Cn = some cell.cls := by
  obtain ⟨r, cell, h1, q1, q2, q3, q4, q5⟩ := hO
  exact ⟨cell, q1, q3, by rw [q2]; exact (C.2.2.2.2.2.2.2.2.1.1 ci _ hc).2.1⟩
theorem pb_runS (C : pb_C w p s m meth c args cc nL own nm ret) (hG : pb_G w s H) (hM : pb_M w l y bytes maxL ret' d mc ms As H post) (hw : GoodIn lw_all (va_wsS own index y (ws_ y bytes maxL ret'))) (hd : y.cls ≠ "java/lang/invoke/MethodHandle" ∧ y.cls ≠ "java/lang/invoke/VarHandle" ∧ (parseMethodDescriptor y.desc).map (fun d => d.parameters.length) = some n) (hn : As.length = n) (hls : ls.size = nL) (hst : st0 = As.reverse ++ rest) (hW : (rest.map fun v => v.category).sum ≤ 8) (hR : d + 1 ≤ R.frames ∧ 8 + (maxL + 11) + 64 * d ≤ R.locals) (hdg : decode cc pc = .ok (.invokestatic index, 3)) :
    pb_Run w.2.2.2 p l e R s m args below meth c H mc ms (F0 m pc ls st0) 3 rest post := by
  refine pb_Run.of (a := As.toArray) fun locs cells slots hf => ?_
  exact va_runS (As := As) (rest := rest) ⟨C.1, C.2.1, C.2.2.1, C.2.2.2.1, C.2.2.2.2.1⟩ hM (va_cwS n C.2.2.2.2.1 hw rfl rfl rfl hd hR) (pb_pre C hG) rfl hn hls hst (by show 2 * 0 + _ ≤ 8; omega) hdg hf
theorem pb_runV (C : pb_C w p s m meth c args cc nL own nm ret) (hG : pb_G w s H) (hM : pb_M w l y bytes maxL ret' d mc ms (.ref b :: As) H post) {Cn : String} {T : u_T} {N ci : Nat} {fs : List Value} (hO : pb_R w H b ci fs) (hc : pb_cl[ci]? = some (Cn, T, N)) (hw : GoodIn lw_all (wsV own index Cn y (ws_ y bytes maxL ret'))) (hd : y.cls = Cn ∧ y.cls ≠ "java/lang/invoke/MethodHandle" ∧ y.cls ≠ "java/lang/invoke/VarHandle" ∧ (parseMethodDescriptor y.desc).map (fun d => d.parameters.length) = some n) (hn : As.length = n) (hls : ls.size = nL) (hst : st0 = As.reverse ++ .ref b :: rest) (hW : (rest.map fun v => v.category).sum ≤ 8) (hR : d + 1 ≤ R.frames ∧ 8 + (maxL + 11) + 64 * d ≤ R.locals) (hdg : decode cc pc = .ok (.invokevirtual index, 3)) :
    pb_Run w.2.2.2 p l e R s m args below meth c H mc ms (F0 m pc ls st0) 3 rest post := by
  refine pb_Run.of (a := (Value.ref b :: As).toArray) fun locs cells slots hf => ?_
  exact va_runV (As := As) (rest := rest) ⟨C.1, C.2.1, C.2.2.1, C.2.2.2.1, C.2.2.2.2.1⟩ hM (cwV n C.2.2.2.2.1 hw rfl rfl rfl hd hR) ⟨(pb_pre C hG).1, pb_recv C hO hc, (pb_pre C hG).2⟩ rfl hn hls hst (by show 2 * 0 + _ ≤ 8; omega) hdg hf
theorem pb_runI (C : pb_C w p s m meth c args cc nL own nm ret) (hG : pb_G w s H) (hM : pb_M w l y bytes maxL none d mc ms (.ref b :: As) H post) (hq1 : Cond.methodLink own index y ∈ lw_all) (hq2 : Cond.instanceMethod y ∈ lw_all) (hq3 : Cond.initialized y.cls ∈ lw_all) (hq4 : Cond.code y bytes maxL none ∈ lw_all) (hy : y.name = "<init>") (hd : y.cls ≠ "java/lang/invoke/MethodHandle" ∧ y.cls ≠ "java/lang/invoke/VarHandle" ∧ (parseMethodDescriptor y.desc).map (fun d => d.parameters.length) = some n) (hn : As.length = n) (hls : ls.size = nL) (hst : st0 = As.reverse ++ .ref b :: rest) (hW : (rest.map fun v => v.category).sum ≤ 8) (hR : d + 1 ≤ R.frames ∧ 8 + (maxL + 11) + 64 * d ≤ R.locals) (hdg : decode cc pc = .ok (.invokespecial index, 3)) :
    pb_Run w.2.2.2 p l e R s m args below meth c H mc ms (F0 m pc ls st0) 3 rest post := by
  refine pb_Run.of (a := (Value.ref b :: As).toArray) fun locs cells slots hf => ?_
  exact va_runI (As := As) (rest := rest) ⟨C.1, C.2.1, C.2.2.1, C.2.2.2.1, C.2.2.2.2.1⟩ hM (cwI n C.2.2.2.2.1 (lw_meth hq4) rfl rfl rfl (C.2.2.2.2.1 _ hq3) (C.2.2.2.2.1 _ hq1) (C.2.2.2.2.1 _ hq2) hy hd hR) (pb_pre C hG) rfl hn hls hst (by show 2 * 0 + _ ≤ 8; omega) hdg hf
/-- nest mates' private ones -/
theorem pb_runVN (C : pb_C w p s m meth c args cc nL own nm ret) (hG : pb_G w s H) (hM : pb_M w l y bytes maxL ret' d mc ms (.ref b :: As) H post) {Cn host : String} {T : u_T} {N ci : Nat} {fs : List Value} (hO : pb_R w H b ci fs) (hc : pb_cl[ci]? = some (Cn, T, N)) (hq1 : Cond.methodLinkNest own index y host ∈ lw_tbl) (hq2 : Cond.instanceMethod y ∈ lw_all) (hq3 : Cond.selects Cn y y ∈ lw_all) (hq4 : Cond.initialized y.cls ∈ lw_all) (hq5 : Cond.code y bytes maxL ret' ∈ lw_all) (hd : y.cls ≠ "java/lang/invoke/MethodHandle" ∧ y.cls ≠ "java/lang/invoke/VarHandle" ∧ (parseMethodDescriptor y.desc).map (fun d => d.parameters.length) = some n) (hn : As.length = n) (hls : ls.size = nL) (hst : st0 = As.reverse ++ .ref b :: rest) (hW : (rest.map fun v => v.category).sum ≤ 8) (hR : d + 1 ≤ R.frames ∧ 8 + (maxL + 11) + 64 * d ≤ R.locals) (hdg : decode cc pc = .ok (.invokevirtual index, 3)) :
    pb_Run w.2.2.2 p l e R s m args below meth c H mc ms (F0 m pc ls st0) 3 rest post := by
  refine pb_Run.of (a := (Value.ref b :: As).toArray) fun locs cells slots hf => ?_
  exact va_runVN (As := As) (rest := rest) ⟨C.1, C.2.1, C.2.2.1, C.2.2.2.1, C.2.2.2.2.1⟩ hM ⟨va_cnB n C.2.2.2.2.1 (lw_meth hq5) rfl rfl rfl (C.2.2.2.2.2.2.2.2.2.1 _ hq1 rfl) (C.2.2.2.2.1 _ hq4) hd hR, C.2.2.2.2.1 _ hq2, C.2.2.2.2.1 _ hq3⟩ ⟨(pb_pre C hG).1, pb_recv C hO hc, (pb_pre C hG).2⟩ rfl hn hls hst (by show 2 * 0 + _ ≤ 8; omega) hdg hf
theorem pb_runSN (C : pb_C w p s m meth c args cc nL own nm ret) (hG : pb_G w s H) (hM : pb_M w l y bytes maxL ret' d mc ms As H post) {host : String} (hq1 : Cond.methodLinkNest own index y host ∈ lw_tbl) (hq2 : Cond.static y ∈ lw_all) (hq4 : Cond.initialized y.cls ∈ lw_all) (hq5 : Cond.code y bytes maxL ret' ∈ lw_all) (hd : y.cls ≠ "java/lang/invoke/MethodHandle" ∧ y.cls ≠ "java/lang/invoke/VarHandle" ∧ (parseMethodDescriptor y.desc).map (fun d => d.parameters.length) = some n) (hn : As.length = n) (hls : ls.size = nL) (hst : st0 = As.reverse ++ rest) (hW : (rest.map fun v => v.category).sum ≤ 8) (hR : d + 1 ≤ R.frames ∧ 8 + (maxL + 11) + 64 * d ≤ R.locals) (hdg : decode cc pc = .ok (.invokestatic index, 3)) :
    pb_Run w.2.2.2 p l e R s m args below meth c H mc ms (F0 m pc ls st0) 3 rest post := by
  refine pb_Run.of (a := As.toArray) fun locs cells slots hf => ?_
  exact va_runSN (As := As) (rest := rest) ⟨C.1, C.2.1, C.2.2.1, C.2.2.2.1, C.2.2.2.2.1⟩ hM ⟨va_cnB n C.2.2.2.2.1 (lw_meth hq5) rfl rfl rfl (C.2.2.2.2.2.2.2.2.2.1 _ hq1 rfl) (C.2.2.2.2.1 _ hq4) hd hR, C.2.2.2.2.1 _ hq2, trivial⟩ (pb_pre C hG) rfl hn hls hst (by show 2 * 0 + _ ≤ 8; omega) hdg hf
theorem pb_runIN (C : pb_C w p s m meth c args cc nL own nm ret) (hG : pb_G w s H) (hM : pb_M w l y bytes maxL none d mc ms (.ref b :: As) H post) {host : String} (hq1 : Cond.methodLinkNest own index y host ∈ lw_tbl) (hq2 : Cond.instanceMethod y ∈ lw_all) (hq3 : Cond.initialized y.cls ∈ lw_all) (hq4 : Cond.code y bytes maxL none ∈ lw_all) (hy : y.name = "<init>") (hd : y.cls ≠ "java/lang/invoke/MethodHandle" ∧ y.cls ≠ "java/lang/invoke/VarHandle" ∧ (parseMethodDescriptor y.desc).map (fun d => d.parameters.length) = some n) (hn : As.length = n) (hls : ls.size = nL) (hst : st0 = As.reverse ++ .ref b :: rest) (hW : (rest.map fun v => v.category).sum ≤ 8) (hR : d + 1 ≤ R.frames ∧ 8 + (maxL + 11) + 64 * d ≤ R.locals) (hdg : decode cc pc = .ok (.invokespecial index, 3)) :
    pb_Run w.2.2.2 p l e R s m args below meth c H mc ms (F0 m pc ls st0) 3 rest post := by
  refine pb_Run.of (a := (Value.ref b :: As).toArray) fun locs cells slots hf => ?_
  exact va_runIN (As := As) (rest := rest) ⟨C.1, C.2.1, C.2.2.1, C.2.2.2.1, C.2.2.2.2.1⟩ hM ⟨va_cnB n C.2.2.2.2.1 (lw_meth hq4) rfl rfl rfl (C.2.2.2.2.2.2.2.2.2.1 _ hq1 rfl) (C.2.2.2.2.1 _ hq3) hd hR, hy, C.2.2.2.2.1 _ hq2⟩ (pb_pre C hG) rfl hn hls hst (by show 2 * 0 + _ ≤ 8; omega) hdg hf
/-- through an interface -/
theorem pb_runF (C : pb_C w p s m meth c args cc nL own nm ret) (hG : pb_G w s H) {x : MethodName} (hM : pb_M w l y bytes maxL ret' d mc ms (.ref b :: As) H post) {Cn : String} {T : u_T} {N ci count : Nat} {fs : List Value} (hO : pb_R w H b ci fs) (hc : pb_cl[ci]? = some (Cn, T, N)) (hF : (Cn, x, y) ∈ pb_Fws) (hq1 : Cond.methodLink own index x ∈ lw_all) (hq2 : Cond.selects Cn x y ∈ lw_all) (hq3 : Cond.instanceMethod y ∈ lw_all) (hq4 : Cond.initialized y.cls ∈ lw_all) (hq5 : Cond.code y bytes maxL ret' ∈ lw_all) (hd : x.cls ≠ "java/lang/invoke/MethodHandle" ∧ x.cls ≠ "java/lang/invoke/VarHandle" ∧ (parseMethodDescriptor x.desc).map (fun d => d.parameters.length) = some n) (hn : As.length = n) (hls : ls.size = nL) (hst : st0 = As.reverse ++ .ref b :: rest) (hW : (rest.map fun v => v.category).sum ≤ 8) (hR : d + 1 ≤ R.frames ∧ 8 + (maxL + 11) + 64 * d ≤ R.locals) (hdg : decode cc pc = .ok (.invokeinterface index count, 5)) :
    pb_Run w.2.2.2 p l e R s m args below meth c H mc ms (F0 m pc ls st0) 5 rest post := by
  refine pb_Run.of5 (a := (Value.ref b :: As).toArray) fun locs cells slots hf => ?_
  refine va_runF (As := As) (rest := rest) (C.2.2.2.2.2.2.2.2.1.1 ci _ hc).2 ⟨C.1, C.2.1, C.2.2.1, C.2.2.2.1, C.2.2.2.2.1⟩ hM (va_cwF n C.2.2.2.2.1 (lw_app ?_ (lw_meth hq5)) rfl rfl rfl (C.2.2.2.2.2.2.2.2.2.2.1 _ hF) hd hR) ⟨(pb_pre C hG).1, pb_recv C hO hc, (pb_pre C hG).2⟩ rfl hn hls hst (by show 2 * 0 + _ ≤ 8; omega) hdg hf
  intro w hw
  simp only [List.mem_cons, List.not_mem_nil, or_false] at hw
  rcases hw with e | e | e | e <;> rw [e] <;> assumption
/-- what comes back -/
theorem pb_go {len bc' bs' : Nat} (hr : pb_Run zs p l e R s m args below meth c H mc ms (F0 m pc ls st0) len rest post) (hbc : mc + bc' ≤ bc) (hbs : ms + bs' ≤ bs) (kk : ∀ (v : Option Value) (H1 : Heap), post v H1 → pb_V zs p l e R s m args below meth c H1 bc' bs' Q (F0 m (pc + len) ls (v.toList ++ rest))) : pb_V zs p l e R s m args below meth c H bc bs Q (F0 m pc ls st0) := by
  intro locs cells slots a1 b1 d1 T hT X
  obtain ⟨v, T', L, X', hL, hq, st⟩ := hr locs cells slots T (by omega) (by omega) hT X
  obtain ⟨t, a2, b2⟩ := kk v T'.heap hq (locs ++ L) (cells + mc) (slots + ms) (fun q h => by
    rcases List.mem_append.mp h with h | h
    · exact a1 q h
    · exact hL q h) (by omega) (by omega) T' rfl X'
  exact ⟨t, st t a2, b2⟩
theorem pb_go_i {len bc' bs' : Nat} {po : Int → Heap → Prop} (hr : pb_Run zs p l e R s m args below meth c H mc ms (F0 m pc ls st0) len rest (pb_qi po)) (hbc : mc + bc' ≤ bc) (hbs : ms + bs' ≤ bs) (kk : ∀ (z : Int) (H1 : Heap), po z H1 → pb_V zs p l e R s m args below meth c H1 bc' bs' Q (F0 m (pc + len) ls (.int (iZ z) :: rest))) : pb_V zs p l e R s m args below meth c H bc bs Q (F0 m pc ls st0) :=
  pb_go hr hbc hbs fun v H1 ⟨z, hv, h⟩ => by subst hv; exact kk z H1 h
theorem pb_go_l {len bc' bs' : Nat} {po : Int → Heap → Prop} (hr : pb_Run zs p l e R s m args below meth c H mc ms (F0 m pc ls st0) len rest (pb_ql po)) (hbc : mc + bc' ≤ bc) (hbs : ms + bs' ≤ bs) (kk : ∀ (z : Int) (H1 : Heap), po z H1 → pb_V zs p l e R s m args below meth c H1 bc' bs' Q (F0 m (pc + len) ls (.long (lZ z) :: rest))) : pb_V zs p l e R s m args below meth c H bc bs Q (F0 m pc ls st0) :=
  pb_go hr hbc hbs fun v H1 ⟨z, hv, h⟩ => by subst hv; exact kk z H1 h
theorem pb_go_q {len bc' bs' : Nat} {po : Value → Heap → Prop} (hr : pb_Run zs p l e R s m args below meth c H mc ms (F0 m pc ls st0) len rest (pb_qq po)) (hbc : mc + bc' ≤ bc) (hbs : ms + bs' ≤ bs) (kk : ∀ (z : Value) (H1 : Heap), po z H1 → pb_V zs p l e R s m args below meth c H1 bc' bs' Q (F0 m (pc + len) ls (z :: rest))) : pb_V zs p l e R s m args below meth c H bc bs Q (F0 m pc ls st0) :=
  pb_go hr hbc hbs fun v H1 ⟨z, hv, h⟩ => by subst hv; exact kk z H1 h
theorem pb_go_r {len bc' bs' : Nat} {po : Nat → Heap → Prop} (hr : pb_Run zs p l e R s m args below meth c H mc ms (F0 m pc ls st0) len rest (pb_qr po)) (hbc : mc + bc' ≤ bc) (hbs : ms + bs' ≤ bs) (kk : ∀ (a : Nat) (H1 : Heap), po a H1 → pb_V zs p l e R s m args below meth c H1 bc' bs' Q (F0 m (pc + len) ls (.ref a :: rest))) : pb_V zs p l e R s m args below meth c H bc bs Q (F0 m pc ls st0) :=
  pb_go hr hbc hbs fun v H1 ⟨z, hv, h⟩ => by subst hv; exact kk z H1 h
theorem pb_go_v {len bc' bs' : Nat} {po : Heap → Prop} (hr : pb_Run zs p l e R s m args below meth c H mc ms (F0 m pc ls st0) len rest (pb_qv po)) (hbc : mc + bc' ≤ bc) (hbs : ms + bs' ≤ bs) (kk : ∀ (H1 : Heap), po H1 → pb_V zs p l e R s m args below meth c H1 bc' bs' Q (F0 m (pc + len) ls rest)) : pb_V zs p l e R s m args below meth c H bc bs Q (F0 m pc ls st0) :=
  pb_go hr hbc hbs fun v H1 ⟨hv, h⟩ => by subst hv; exact kk H1 h
theorem pb_go_x {len bc' bs' : Nat} {x : Value} (hr : pb_Run zs p l e R s m args below meth c H mc ms (F0 m pc ls st0) len rest (pb_qx x H)) (hbc : mc + bc' ≤ bc) (hbs : ms + bs' ≤ bs) (kk : pb_V zs p l e R s m args below meth c H bc' bs' Q (F0 m (pc + len) ls (x :: rest))) : pb_V zs p l e R s m args below meth c H bc bs Q (F0 m pc ls st0) :=
  pb_go hr hbc hbs fun v H1 ⟨hv, h⟩ => by subst hv; subst h; exact kk
theorem pb_go_n {len bc' bs' : Nat} (hr : pb_Run zs p l e R s m args below meth c H mc ms (F0 m pc ls st0) len rest (pb_qn H)) (hbc : mc + bc' ≤ bc) (hbs : ms + bs' ≤ bs) (kk : pb_V zs p l e R s m args below meth c H bc' bs' Q (F0 m (pc + len) ls rest)) : pb_V zs p l e R s m args below meth c H bc bs Q (F0 m pc ls st0) :=
  pb_go hr hbc hbs fun v H1 ⟨hv, h⟩ => by subst hv; subst h; exact kk
/-- the method's end -/
theorem pb_iret (C : pb_C w p s m meth c args cc nL own nm (some .int)) (hdg : decode cc pc = .ok (.ireturn, 1)) {v : Int32} (h : post (some (.int v)) H) (hc : R.cells = mc := by rfl) (hs : R.slots = ms := by rfl) : pb_V zs p l e R s m args below meth c H bc bs (MQ below (pb_Q post) args s mc ms (fun q => zs ≤ q)) (F0 m pc ls [.int v]) := by
  subst hc; subst hs
  intro locs cells slots a1 b1 d1
  have hlocks : meth.locks = false := C.2.2.2.2.2.2.1
  exact W.widen (k := R.cells) (n := R.slots) (by omega) (by omega) (W.iret C.1 C.2.1 C.2.2.2.2.2.1 (fun t ht _ => ⟨_, rfl, by rw [ht]; exact h⟩) a1 hdg)
theorem pb_zret {ty : FieldType} (C : pb_C w p s m meth c args cc nL own nm (some ty)) (hdg : decode cc pc = .ok (.ireturn, 1)) {v : Int32} (hn : narrow ty (.int v) = .int v) (h : post (some (.int v)) H) (hc : R.cells = mc := by rfl) (hs : R.slots = ms := by rfl) : pb_V zs p l e R s m args below meth c H bc bs (MQ below (pb_Q post) args s mc ms (fun q => zs ≤ q)) (F0 m pc ls [.int v]) := by
  subst hc; subst hs
  intro locs cells slots a1 b1 d1
  have hlocks : meth.locks = false := C.2.2.2.2.2.2.1
  exact W.widen (k := R.cells) (n := R.slots) (by omega) (by omega) (W.zret C.1 C.2.1 C.2.2.2.2.2.1 hn (fun t ht _ => ⟨_, rfl, by rw [ht]; exact h⟩) a1 hdg)
theorem pb_vret (C : pb_C w p s m meth c args cc nL own nm none) (hdg : decode cc pc = .ok (.return_, 1)) (h : post none H) (hc : R.cells = mc := by rfl) (hs : R.slots = ms := by rfl) : pb_V zs p l e R s m args below meth c H bc bs (MQ below (pb_Q post) args s mc ms (fun q => zs ≤ q)) (F0 m pc ls []) := by
  subst hc; subst hs
  intro locs cells slots a1 b1 d1
  have hlocks : meth.locks = false := C.2.2.2.2.2.2.1
  exact W.widen (k := R.cells) (n := R.slots) (by omega) (by omega) (W.vret C.1 C.2.1 C.2.2.2.2.2.1 (fun t ht _ => ⟨_, rfl, by rw [ht]; exact h⟩) a1 hdg)
theorem pb_aret {rt : FieldType} (C : pb_C w p s m meth c args cc nL own nm (some rt)) (hrt : (∃ n, rt = .object n) ∨ ∃ t, rt = .array t) (hdg : decode cc pc = .ok (.areturn, 1)) {v : Value} (hv : v = .null ∨ ∃ a, v = .ref a) (h : post (some v) H) (hc : R.cells = mc := by rfl) (hs : R.slots = ms := by rfl) : pb_V zs p l e R s m args below meth c H bc bs (MQ below (pb_Q post) args s mc ms (fun q => zs ≤ q)) (F0 m pc ls [v]) := by
  subst hc; subst hs
  intro locs cells slots a1 b1 d1
  have hlocks : meth.locks = false := C.2.2.2.2.2.2.1
  exact W.widen (k := R.cells) (n := R.slots) (by omega) (by omega) (W.aret C.1 C.2.1 C.2.2.2.2.2.1 hrt hv (fun t ht _ => ⟨_, rfl, by rw [ht]; exact h⟩) a1 hdg)
theorem pb_lret (C : pb_C w p s m meth c args cc nL own nm (some .long)) (hdg : decode cc pc = .ok (.lreturn, 1)) {v : Int64} (h : post (some (.long v)) H) (hc : R.cells = mc := by rfl) (hs : R.slots = ms := by rfl) : pb_V zs p l e R s m args below meth c H bc bs (MQ below (pb_Q post) args s mc ms (fun q => zs ≤ q)) (F0 m pc ls [.long v]) := by
  subst hc; subst hs
  intro locs cells slots a1 b1 d1
  have hlocks : meth.locks = false := C.2.2.2.2.2.2.1
  exact W.widen (k := R.cells) (n := R.slots) (by omega) (by omega) (W.lret C.1 C.2.1 C.2.2.2.2.2.1 (fun t ht _ => ⟨_, rfl, by rw [ht]; exact h⟩) a1 hdg)
theorem pb_dret (C : pb_C w p s m meth c args cc nL own nm (some .double)) (hdg : decode cc pc = .ok (.dreturn, 1)) {v : UInt64} (h : post (some (.double v)) H) (hc : R.cells = mc := by rfl) (hs : R.slots = ms := by rfl) : pb_V zs p l e R s m args below meth c H bc bs (MQ below (pb_Q post) args s mc ms (fun q => zs ≤ q)) (F0 m pc ls [.double v]) := by
  subst hc; subst hs
  intro locs cells slots a1 b1 d1
  have hlocks : meth.locks = false := C.2.2.2.2.2.2.1
  exact W.widen (k := R.cells) (n := R.slots) (by omega) (by omega) (W.dret C.1 C.2.1 C.2.2.2.2.2.1 (fun t ht _ => ⟨_, rfl, by rw [ht]; exact h⟩) a1 hdg)
theorem pb_fret (C : pb_C w p s m meth c args cc nL own nm (some .float)) (hdg : decode cc pc = .ok (.freturn, 1)) {v : UInt32} (h : post (some (.float v)) H) (hc : R.cells = mc := by rfl) (hs : R.slots = ms := by rfl) : pb_V zs p l e R s m args below meth c H bc bs (MQ below (pb_Q post) args s mc ms (fun q => zs ≤ q)) (F0 m pc ls [.float v]) := by
  subst hc; subst hs
  intro locs cells slots a1 b1 d1
  have hlocks : meth.locks = false := C.2.2.2.2.2.2.1
  exact W.widen (k := R.cells) (n := R.slots) (by omega) (by omega) (W.fret C.1 C.2.1 C.2.2.2.2.2.1 (fun t ht _ => ⟨_, rfl, by rw [ht]; exact h⟩) a1 hdg)
end PBC
