set_option maxRecDepth 100000
section PBVR
variable {p : Program} {l : Launch} {e : Env} {R : Room} {s : State} {m : MethodId} {args : Array Value} {below : List Frame} {meth : Method} {c : Code} {H : Heap}
variable {w : pb_W} {cc : ByteArray} {nL : Nat} {own nm : String} {ret : Option FieldType} {pc : Nat} {ls : Array Slot} {rest st0 : List Value}
variable {y : MethodName} {bytes : ByteArray} {maxL d mc ms index n : Nat} {ret' : Option FieldType} {b : Nat} {As : List Value} {post : Option Value → Heap → Prop}
/-- super.m(..) -/
theorem pb_runSU (C : pb_C w p s m meth c args cc nL own nm ret) (hG : pb_G w s H) (hM : pb_M w l y bytes maxL ret' d mc ms (.ref b :: As) H post) {Cn : String} {T : u_T} {N ci : Nat} {fs : List Value} (hO : pb_R w H b ci fs) (hc : pb_cl[ci]? = some (Cn, T, N)) (hq1 : Cond.methodLink own index y ∈ lw_all) (hq2 : Cond.sameMethod y.cls y.cls y.name y.desc ∈ lw_all) (hq3 : Cond.superclass own y.cls ∈ lw_all) (hq4 : Cond.instanceMethod y ∈ lw_all) (hq5 : Cond.initialized y.cls ∈ lw_all) (hq6 : Cond.code y bytes maxL ret' ∈ lw_all) (hd : y.name ≠ "<init>" ∧ (parseMethodDescriptor y.desc).map (fun d => d.parameters.length) = some n) (hn : As.length = n) (hls : ls.size = nL) (hst : st0 = As.reverse ++ .ref b :: rest) (hW : (rest.map fun v => v.category).sum ≤ 8) (hR : d + 1 ≤ R.frames ∧ 8 + (maxL + 11) + 64 * d ≤ R.locals) (hdg : decode cc pc = .ok (.invokespecial index, 3)) :
    pb_Run w.2.2.2 p l e R s m args below meth c H mc ms (F0 m pc ls st0) 3 rest post := by
  refine pb_Run.of (a := (Value.ref b :: As).toArray) fun locs cells slots hf => ?_
  have ht := C.2.2.2.2.1
  have hGd : GoodIn lw_all (ws_ y bytes maxL ret') := lw_meth hq6
  have hcc : Cond.code y bytes maxL ret' ∈ ws_ y bytes maxL ret' := List.mem_cons_self
  exact va_runSU (As := As) (rest := rest) (C.2.2.2.2.2.2.2.2.1.1 ci _ hc).2 ⟨C.1, C.2.1, C.2.2.1, C.2.2.2.1, C.2.2.2.2.1⟩ hM (n := n)
    ⟨⟨rfl, rfl, hR.1, hR.2, pay_in ht hGd, hcc⟩, ht _ hq1, ht _ hq2, ht _ hq3, ht _ hq4, ht _ hq5, ht _ hq6, hd.1, fun sig h => (by have h2 := hd.2; rw [h] at h2; exact (Option.some.inj h2).symm)⟩ ⟨(pb_pre C hG).1, pb_recv C hO hc, (pb_pre C hG).2⟩ rfl hn hls hst (by show 2 * 0 + _ ≤ 8; omega) hdg hf
/-- an inherited or overriding method -/
theorem pb_runO (C : pb_C w p s m meth c args cc nL own nm ret) (hG : pb_G w s H) (hM : pb_M w l y bytes maxL ret' d mc ms (.ref b :: As) H post) {x : MethodName} {owner Cn : String} {T : u_T} {N ci : Nat} {fs : List Value} (hO : pb_R w H b ci fs) (hc : pb_cl[ci]? = some (Cn, T, N)) (hq1 : Cond.methodLink own index x ∈ lw_all) (hq2 : Cond.sameMethod x.cls owner x.name x.desc ∈ lw_all) (hq3 : Cond.instanceMethod ⟨owner, x.name, x.desc⟩ ∈ lw_all) {b0 : ByteArray} {m0 : Nat} {r0 : Option FieldType} (hq8 : Cond.code ⟨owner, x.name, x.desc⟩ b0 m0 r0 ∈ lw_all) (hq4 : Cond.selects Cn x y ∈ lw_all) (hq5 : Cond.instanceMethod y ∈ lw_all) (hq6 : Cond.initialized y.cls ∈ lw_all) (hq7 : Cond.code y bytes maxL ret' ∈ lw_all) (hd : owner ≠ "java/lang/invoke/MethodHandle" ∧ owner ≠ "java/lang/invoke/VarHandle" ∧ (parseMethodDescriptor x.desc).map (fun d => d.parameters.length) = some n) (hn : As.length = n) (hls : ls.size = nL) (hst : st0 = As.reverse ++ .ref b :: rest) (hW : (rest.map fun v => v.category).sum ≤ 8) (hR : d + 1 ≤ R.frames ∧ 8 + (maxL + 11) + 64 * d ≤ R.locals) (hdg : decode cc pc = .ok (.invokevirtual index, 3)) :
    pb_Run w.2.2.2 p l e R s m args below meth c H mc ms (F0 m pc ls st0) 3 rest post := by
  refine pb_Run.of (a := (Value.ref b :: As).toArray) fun locs cells slots hf => ?_
  have ht := C.2.2.2.2.1
  have hGd : GoodIn lw_all (ws_ y bytes maxL ret') := lw_meth hq7
  have hcc : Cond.code y bytes maxL ret' ∈ ws_ y bytes maxL ret' := List.mem_cons_self
  have cw : va_CU R s args own Cn owner index x y bytes maxL ret' (ws_ y bytes maxL ret') (pb_rm d mc ms) mc ms n :=
    ⟨⟨rfl, rfl, hR.1, hR.2, pay_in ht hGd, hcc⟩, ht _ hq7, ht _ hq6, ⟨hd.1, hd.2.1⟩, fun sig h => (by have h2 := hd.2.2; rw [h] at h2; exact (Option.some.inj h2).symm), ht _ hq1, ht _ hq2, va_Decl.of (ht _ hq3) (ht _ hq8), ht _ hq4, ht _ hq5⟩
  exact va_runU (As := As) (rest := rest) ⟨C.1, C.2.1, C.2.2.1, C.2.2.2.1, C.2.2.2.2.1⟩ hM cw ⟨(pb_pre C hG).1, pb_recv C hO hc, (pb_pre C hG).2⟩ rfl hn hls hst (by show 2 * 0 + _ ≤ 8; omega) hdg hf
end PBVR
/-! scans over the rectangles of a region -/
def scE {σ : Type} (f : σ → Int → Int → Int → Int → σ) (lo hi : Int) (E : List Int) (s : σ) : Nat → σ
  | 0 => s
  | j + 1 => f (scE f lo hi E s j) (eE E (2 * j)) lo (eE E (2 * j + 1)) hi
def scL {σ : Type} (f : σ → Int → Int → Int → Int → σ) (L : List Bnd) (s : σ) : Nat → σ
  | 0 => s
  | k + 1 => scE f (bd L k).1 (bd L k).2.1 (bE L k) (scL f L s k) ((bE L k).length / 2)
def arS (s : Int × Int) (l lo r hi : Int) : Int × Int := (s.1 + 1, s.2 + (r - l) * (hi - lo))
def sqN (x : Int) : Int := Int.tdiv ((x - 1) * x * (2 * x - 1)) 6
def moS (s : Int × Int) (l lo r hi : Int) : Int × Int := (s.1 + 1, s.2 + (sqN r - sqN l) * (hi - lo) + (sqN hi - sqN lo) * (r - l))
def miS (s : Int × Int × Int × Int) (l lo r hi : Int) : Int × Int × Int × Int := (s.1 + 1, s.2.1 + (r * r - l * l) * (hi - lo), s.2.2.1 + (hi * hi - lo * lo) * (r - l), s.2.2.2 + (r - l) * (hi - lo))
theorem sqN_rg {x : Int} (h : -100 ≤ x ∧ x ≤ 100) : -1000000 ≤ sqN x ∧ sqN x ≤ 1000000 := by
  have h9 : ∀ i : Fin 201, -1000000 ≤ sqN ((i.val : Int) - 100) ∧ sqN ((i.val : Int) - 100) ≤ 1000000 := by decide +kernel
  have h1 := h9 ⟨(x + 100).toNat, by omega⟩
  rwa [show ((((x + 100).toNat : Nat) : Int) - 100) = x by omega] at h1
theorem sqP_rg {x : Int} (h : -100 ≤ x ∧ x ≤ 100) : (-10000000 ≤ (x - 1) * x * (2 * x - 1) ∧ (x - 1) * x * (2 * x - 1) ≤ 10000000) := by
  have h9 : ∀ i : Fin 201, (-10000000 ≤ (((i.val : Int) - 100) - 1) * ((i.val : Int) - 100) * (2 * ((i.val : Int) - 100) - 1) ∧ (((i.val : Int) - 100) - 1) * ((i.val : Int) - 100) * (2 * ((i.val : Int) - 100) - 1) ≤ 10000000) := by decide +kernel
  have h1 := h9 ⟨(x + 100).toNat, by omega⟩
  rwa [show ((((x + 100).toNat : Nat) : Int) - 100) = x by omega] at h1
theorem It.up2 {w : pb_W} {H H1 : Heap} {i a k n c : Nat} (h : It w H i a k n) (f : pb_F (fun q => q ≠ c) H H1) (hi : i ≠ c) : It w H1 i a k n := pb_O.kept h (f.2 _ (pb_O.lt h) hi)
