set_option maxRecDepth 100000
section PBN
variable {zs : Nat} {p : Program} {l : Launch} {e : Env} {R : Room} {s : State} {m : MethodId} {args : Array Value} {below : List Frame} {meth : Method} {c : Code} {H : Heap} {bc bs : Nat} {Q : State → Prop}
variable {w : pb_W} {cc : ByteArray} {nL : Nat} {own nm : String} {ret : Option FieldType} {pc : Nat} {ls : Array Slot} {rest : List Value}
/-- a new object, its address named -/
theorem pb_newE (C : pb_C w p s m meth c args cc nL own nm ret) {Cn : String} {T : u_T} {N ci index : Nat} (hin : ∀ q ∈ u_ws Cn T N, q ∈ lw_all) (ty : Nat → FieldType) (hty : ∀ k, k < N → parseFieldDescriptor (T k).2.2.1 = some (ty k)) (hc : pb_cl[ci]? = some (Cn, T, N)) (hcl : Cond.classLink own index Cn ∈ lw_all) (hinst : Cond.instantiable Cn N ∈ lw_all) (hini : Cond.initialized Cn ∈ lw_all) {fs : List Value} (hfs : ∀ j, j < N → defaultValue (ty j) = vp_V fs j) {bc' bs' : Nat} (hbc : 1 + bc' ≤ bc) (hbs : N + bs' ≤ bs) (hdg : decode cc pc = .ok (.new index, 3))
    (kk : ∀ (a : Nat) (H1 : Heap), a = H.size → pb_Nx H H1 → pb_O w H1 a ci fs → pb_V zs p l e R s m args below meth c H1 bc' bs' Q (F0 m (pc + 3) ls (.ref a :: rest))) : pb_V zs p l e R s m args below meth c H bc bs Q (F0 m pc ls rest) :=
  pb_new C hin ty hty hc hcl hinst hini hfs hbc hbs hdg fun H1 h1 h2 => kk _ H1 rfl h1 h2
theorem pb_newaE (C : pb_C w p s m meth c args cc nL own nm ret) (t : Nat) (ht : t < 4) {atype : ArrayType} (hty : newarray.typeOf atype = pb_aty t) (hq : Cond.arrayClass (newarray.typeOf atype) ∈ lw_all) {n : Nat} (hn : n ≤ 1000000) {d : Value} (hd : defaultValue (pb_aty t) = d) {bc' bs' : Nat} (hbc : 1 + bc' ≤ bc) (hbs : n + bs' ≤ bs) (hdg : decode cc pc = .ok (.newarray atype, 2))
    (kk : ∀ (a : Nat) (H1 : Heap), a = H.size → pb_Nx H H1 → pb_A w H1 a t n (fun _ => d) → pb_V zs p l e R s m args below meth c H1 bc' bs' Q (F0 m (pc + 2) ls (.ref a :: rest))) : pb_V zs p l e R s m args below meth c H bc bs Q (F0 m pc ls (.int (iZ (n : Int)) :: rest)) :=
  pb_newa C t ht hty hq hn hd hbc hbs hdg fun H1 h1 h2 => kk _ H1 rfl h1 h2
end PBN
def mS0 : mS := (fun _ => 0, fun _ _ => 0, fun _ _ => 0)
