set_option maxRecDepth 100000
section PBL
variable {zs : Nat} {p : Program} {l : Launch} {e : Env} {R : Room} {s : State} {m : MethodId} {args : Array Value} {below : List Frame} {meth : Method} {c : Code} {H : Heap} {bc bs : Nat} {Q : State → Prop}
variable {w : pb_W} {cc : ByteArray} {nL : Nat} {own nm : String} {ret : Option FieldType} {pc : Nat} {ls : Array Slot} {rest : List Value}
/-- a field of a constant -/
theorem pb_getL (C : pb_C w p s m meth c args cc nL own nm ret) {o n d ref : String} {index q : Nat} {v : Value} {A : Nat → Prop} (hE : va_OF o n d v q A s H) (hq : Cond.fieldLink own index ref n d ∈ lw_all) (hsame : ∀ x, s.fieldFound? o n d = some x → s.fieldFound? ref n d = some x) (hdg : decode cc pc = .ok (.getfield index, 3))
    (kk : pb_V zs p l e R s m args below meth c H bc bs Q (F0 m (pc + 3) ls (v :: rest))) : pb_V zs p l e R s m args below meth c H bc bs Q (F0 m pc ls (.ref q :: rest)) := by
  obtain ⟨cf, k, fi, f, cell, h1, h2, h3, h4, h5, h6⟩ := hE
  exact pb_lift (fun _ _ _ kk => W.getf C.1 C.2.1 C.2.2.2.1 (C.2.2.2.2.1 _ hq) (hsame _ h1) h2 h3 h4 (v := v) h5 rfl rfl hdg kk) kk
end PBL
def ltK (k : Nat) : Int := if k = 0 then 117 else if k = 1 then 105 else if k = 2 then 100 else 120
theorem pb_G.lt {w : pb_W} {s : State} {H : Heap} (hG : pb_G w s H) {k : Nat} (hk : k < 4) : va_OF "PolygonBoard$Operation" "letter" "C" (.int (iZ (ltK k))) (w.2.2.1 (3 + k)) (fun q => w.2.2.2 ≤ q) s H := by
  obtain ⟨z, a1, a2, a3, b1, b2, b3, b4, b5, ⟨c1, c2, c3⟩, ⟨d1, d2, d3⟩, ⟨e1, e2, e3⟩, ⟨f1, f2, f3⟩, -⟩ := hG
  match k, hk with
  | 0, _ => exact c3
  | 1, _ => exact d3
  | 2, _ => exact e3
  | 3, _ => exact f3
