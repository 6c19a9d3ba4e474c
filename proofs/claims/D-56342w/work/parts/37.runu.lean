set_option maxRecDepth 100000
section PBU
variable {p : Program} {l : Launch} {e : Env} {R : Room} {s : State} {m : MethodId} {args : Array Value} {below : List Frame} {meth : Method} {c : Code} {H : Heap}
variable {w : pb_W} {cc : ByteArray} {nL : Nat} {own nm : String} {ret : Option FieldType} {pc : Nat} {ls : Array Slot} {rest st0 : List Value}
variable {y : MethodName} {bytes : ByteArray} {maxL d mc ms index n : Nat} {ret' : Option FieldType} {b : Nat} {As : List Value} {post : Option Value → Heap → Prop}
/-- a call of an abstract method, on an object whose class is known (and bears no word 'initialized') -/
theorem pb_runUN (C : pb_C w p s m meth c args cc nL own nm ret) (hG : pb_G w s H) (hM : pb_MN w l y bytes maxL ret' d mc ms (.ref b :: As) H post) {E : String} {x : MethodName} {A : Nat → Prop} (hO : va_O E b A s H) (hq1 : Cond.methodLink own index x ∈ lw_all) (hq2 : Cond.sameMethod x.cls x.cls x.name x.desc ∈ lw_all) (hq3 : Cond.declares x ∈ lw_tbl) (hq4 : Cond.selects E x y ∈ lw_all) (hq5 : Cond.instanceMethod y ∈ lw_all) (hq7 : Cond.code y bytes maxL ret' ∈ lw_all) (hd : x.cls ≠ "java/lang/invoke/MethodHandle" ∧ x.cls ≠ "java/lang/invoke/VarHandle" ∧ (parseMethodDescriptor x.desc).map (fun d => d.parameters.length) = some n) (hn : As.length = n) (hls : ls.size = nL) (hst : st0 = As.reverse ++ .ref b :: rest) (hW : (rest.map fun v => v.category).sum ≤ 8) (hR : d + 1 ≤ R.frames ∧ 8 + (maxL + 11) + 64 * d ≤ R.locals) (hdg : decode cc pc = .ok (.invokevirtual index, 3)) :
    pb_Run w.2.2.2 p l e R s m args below meth c H mc ms (F0 m pc ls st0) 3 rest post := by
  refine pb_Run.of (a := (Value.ref b :: As).toArray) fun locs cells slots hf => ?_
  have ht := C.2.2.2.2.1
  have hGd : GoodIn lw_all (ws_ y bytes maxL ret') := lw_meth hq7
  have hK : Back l R p e below s args y 3 8 (PreOf R mc ms (pb_P w (.ref b :: As) H)) (PostOf (pb_Q post) mc ms (fun q => w.2.2.2 ≤ q)) := pb_backN hM hR.1 hR.2 (pay_in ht hGd)
  obtain ⟨cell, o1, o2, o3, -⟩ := hO
  intro T hT X
  obtain ⟨v, vm₁, ⟨U', l2, c2, s2⟩, hW₁, X', ⟨g', mk, t, L, e1, e2, hq, h1, hL, h2, h3⟩, st⟩ := va_callVU X C.1 (C := E) (owner := x.cls) (bytes := bytes) (maxL := maxL) (ret := ret') C.2.2.2.1 (ht _ hq1) (ht _ hq2) (va_Decl.abs (C.2.2.2.2.2.2.2.2.2.1 _ hq3 rfl)) ⟨hd.1, hd.2.1⟩ (ht _ hq4) (ht _ hq5) (ht _ hq7) hK (by rw [hT]; exact o1) o2 o3 (g := F0 m pc ls st0) rfl (hls.trans C.2.2.1.symm) (argsL := As) (rest := rest) (fun sig h => (by have h2 := hd.2.2; rw [h] at h2; rw [hn]; exact (Option.some.inj h2).symm)) hst (by show 2 * 0 + _ ≤ 8; omega) (by rw [C.2.1]; exact hdg)
    (fun vm₁ hW₁ => ⟨hf.1, hf.2, (pb_pre C hG).2 (T.setVm vm₁) hT hW₁⟩)
  dsimp only [Pt.U, Pt.locs, Pt.cells, Pt.slots] at X' e1 e2 h1 h2 h3 st
  subst h1; subst h2; subst h3
  exact ⟨v, (T.setVm vm₁).calling g' mk (Value.ref b :: As).toArray, t, U', L, hT, X', hL, e1, e2, hq, st⟩
end PBU
/-! two rows of spans combined: a merge of their ends -/
def isF (E F : List Int) (i j : Nat) : Bool := decide (j = F.length ∨ (i < E.length ∧ eE E i ≤ eE F j))
def cmS (k : Nat) (E F : List Int) : Nat → Nat × Nat × Int × List Int
  | 0 => (0, 0, 0, [])
  | n + 1 =>
    let t := cmS k E F n
    let b := isF E F t.1 t.2.1
    let x := if b = true then eE E t.1 else eE F t.2.1
    (if b = true then t.1 + 1 else t.1, if b = true then t.2.1 else t.2.1 + 1, x, if opk k (decide (t.1 % 2 = 1)) (decide (t.2.1 % 2 = 1)) = true then spadd t.2.2.2 t.2.2.1 x else t.2.2.2)
section PBK
variable {p : Program} {l : Launch} {e : Env} {R : Room} {s : State} {m : MethodId} {args : Array Value} {below : List Frame} {meth : Method} {c : Code} {H : Heap}
variable {w : pb_W} {cc : ByteArray} {nL : Nat} {own nm : String} {ret : Option FieldType} {pc : Nat} {ls : Array Slot} {rest : List Value}
theorem pb_keeps (C : pb_C w p s m meth c args cc nL own nm ret) (hG : pb_G w s H) {k : Nat} (hk : k < 4) (x y : Bool) {index : Nat} (hq1 : Cond.methodLink own index (⟨"PolygonBoard$Operation", "keeps", "(ZZ)Z"⟩ : MethodName) ∈ lw_all) (hls : ls.size = nL) (hW : (rest.map fun v => v.category).sum ≤ 8) (hR : 1 ≤ R.frames ∧ 8 + (3 + 11) + 64 * 0 ≤ R.locals) (hdg : decode cc pc = .ok (.invokevirtual index, 3)) :
    pb_Run w.2.2.2 p l e R s m args below meth c H 0 0 (F0 m pc ls (.int (iZ (bI y)) :: .int (iZ (bI x)) :: .ref (w.2.2.1 (3 + k)) :: rest)) 3 rest (pb_qx (.int (iZ (bI (opk k x y)))) H) := by
  obtain ⟨z, a1, a2, a3, b1, b2, b3, b4, b5, ⟨c1, c2, c3⟩, ⟨d1, d2, d3⟩, ⟨e1, e2, e3⟩, ⟨f1, f2, f3⟩, -⟩ := id hG
  match k, hk with
  | 0, _ => exact pb_runUN C hG (met_X18_keeps l _ x y) c2 hq1 q702 q701 q703 q704 q705 (n := 2) ⟨by decide, by decide, by decide +kernel⟩ rfl hls rfl hW hR hdg
  | 1, _ => exact pb_runUN C hG (met_X19_keeps l _ x y) d2 hq1 q702 q701 q706 q707 q708 (n := 2) ⟨by decide, by decide, by decide +kernel⟩ rfl hls rfl hW hR hdg
  | 2, _ => exact pb_runUN C hG (met_X20_keeps l _ x y) e2 hq1 q702 q701 q709 q710 q711 (n := 2) ⟨by decide, by decide, by decide +kernel⟩ rfl hls rfl hW hR hdg
  | 3, _ => exact pb_runUN C hG (met_X21_keeps l _ x y) f2 hq1 q702 q701 q712 q713 q714 (n := 2) ⟨by decide, by decide, by decide +kernel⟩ rfl hls rfl hW hR hdg
end PBK
