set_option maxRecDepth 100000
theorem Sb.m8 {w : pb_W} {H : Heap} {z a m : Nat} {E : List Int} (h : Sb w H z a E m) : m = 8 ∨ m = 16 ∨ m = 32 ∨ m = 64 := by
  obtain ⟨e, f, h1, h2, h3, h4, h5, h6, h7, h8, h9, -⟩ := h
  exact h9
theorem Sp.rg {w : pb_W} {H : Heap} {P : Nat → Prop} {a : Nat} {E : List Int} (h : Sp w H P a E) : rgE E ∧ E.length ≤ 64 := by
  obtain ⟨e, m, f, h1, h2, h3, h4, h5, h6, h7, h8⟩ := h
  exact ⟨h7, by omega⟩
theorem Sp.below {w : pb_W} {H : Heap} {P : Nat → Prop} {a : Nat} {E : List Int} (h : Sp w H P a E) : Sp w H (fun q => q < H.size) a E := h.mono fun _ h _ => h
/-- the first k spans, each with its ends moved -/
def mvE (E : List Int) (dl dr : Int) : Nat → List Int
  | 0 => []
  | k + 1 => spadd (mvE E dl dr k) (eE E (2 * k) + dl) (eE E (2 * k + 1) + dr)
/-- the last k spans, mirrored -/
def mrE (E : List Int) (n : Nat) : Nat → List Int
  | 0 => []
  | k + 1 => spadd (mrE E n k) (24 - eE E (2 * (n - 1 - k) + 1)) (24 - eE E (2 * (n - 1 - k)))
