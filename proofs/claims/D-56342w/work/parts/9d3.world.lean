set_option maxRecDepth 100000
/-! the law's start: what the tables and the Statement's premises say of it -/
section WLD
variable {args : Array Value} {s : State}
theorem st_hA : ∀ a : Nat, a < s.heap.size → ¬ (s.heap.size ≤ a) := fun _ h => Nat.not_le.mpr h
theorem len_size {t : Term} {n : Nat} (hn : n < 2147483648) (h : (Term.length t).eval args s none [] s = some (.int (Int32.ofNat n))) : ∃ a cell, t.eval args s none [] s = some (.ref a) ∧ s.arrayAt? a = some cell ∧ cell.slots.size = n := by
  obtain ⟨a, cell, h1, h2, h3⟩ := Term.length_spec h
  have hsz : cell.slots.size < 2147483648 := by
    simp only [Term.eval, h1, h2, Option.bind_eq_bind, Option.bind_some] at h
    by_cases hlt : cell.slots.size < 2147483648
    · exact hlt
    · simp [hlt] at h
  refine ⟨a, cell, h1, h2, ?_⟩
  have e : Int32.ofNat cell.slots.size = Int32.ofNat n := (Value.int.inj h3).symm
  have e1 := Int32.toNatClampNeg_ofNat_of_lt (n := cell.slots.size) hsz
  have e2 := Int32.toNatClampNeg_ofNat_of_lt (n := n) hn
  rw [e, e2] at e1
  exact e1.symm
/-- an array that is exactly of a class, of a known length -/
theorem arr_ex {t : Term} {nm : String} {n : Nat} (hn : n < 2147483648) (hex : (Cond.exactly t nm).before args s = true) (hlen : (Cond.eq (.length t) (.int (Int32.ofNat n))).before args s = true) :
    ∃ a cell, t.eval args s none [] s = some (.ref a) ∧ s.arrayAt? a = some cell ∧ s.heap[a]? = some cell ∧ s.vm.findClass nm = some cell.cls ∧ cell.vm.isStatics = false ∧ cell.vm ≠ .unknown ∧ cell.slots.size = n := by
  obtain ⟨a, cell, h1, h2, h3⟩ := len_size hn (va_eqt hlen)
  obtain ⟨hcell, hkn, hst, -⟩ := State.arrayAt?_spec h2
  obtain ⟨a2, c, cA, kA, q1, q2, q3, q4, q5, q6, -⟩ := Cond.exactly_spec (args := args) (first := s) (o := none) (s := s) (idx := []) (t := t) (cls := nm) hex
  cases h1.symm.trans q1
  cases hcell.symm.trans q3
  exact ⟨a, cell, h1, h2, hcell, by rw [q6]; exact q2, hst, hkn, h3⟩
theorem arr_at {t : Term} {a : Nat} {cell : Cell} {z : Int32} {v : Value} (ht : t.eval args s none [] s = some (.ref a)) (hat : s.arrayAt? a = some cell) (h : (Term.elem t (.int z)).eval args s none [] s = some v) : cell.slots[z.toNatClampNeg]? = some v := by
  obtain ⟨a2, i, cell2, h1, h2, h3, h4, h5⟩ := Term.elem_spec h
  cases ht.symm.trans h1
  cases hat.symm.trans h3
  have e : (Term.int z).eval args s none [] s = some (.int z) := rfl
  cases h2.symm.trans e
  exact h5
theorem fld_at {t : Term} {o n d : String} {a i : Nat} {cell : Cell} {v : Value} (hS : SlotIs s o n d i) (ht : t.eval args s none [] s = some (.ref a)) (hc : s.heap[a]? = some cell) (h : (Term.field t o n d).eval args s none [] s = some v) : cell.slots[i]? = some v ∧ cell.vm ≠ .unknown := by
  obtain ⟨cf, kf, fi, fd, hi, rfl⟩ := hS
  obtain ⟨g1, cell2, g2, g3, -, -, g6⟩ := Term.field_spec hi ht h
  cases hc.symm.trans g2
  exact ⟨g6, g3⟩
theorem obj_ex {t : Term} {nm : String} (hex : (Cond.exactly t nm).before args s = true) : ∃ a cell, t.eval args s none [] s = some (.ref a) ∧ s.heap[a]? = some cell ∧ s.vm.findClass nm = some cell.cls ∧ cell.vm.isStatics = false := by
  obtain ⟨a2, c, cA, kA, q1, q2, q3, q4, q5, q6, -⟩ := Cond.exactly_spec (args := args) (first := s) (o := none) (s := s) (idx := []) (t := t) (cls := nm) hex
  exact ⟨a2, cA, q1, q3, by rw [q6]; exact q2, q5⟩
theorem of_at {t : Term} {o n d : String} {a : Nat} {v : Value} {A : Nat → Prop} (ht : t.eval args s none [] s = some (.ref a)) (h : (Term.field t o n d).eval args s none [] s = some v) (hA : ∀ a : Nat, a < s.heap.size → ¬ A a) : va_OF o n d v a A s s.heap := by
  cases hfo : s.fieldFound? o n d with
  | none =>
    rw [va_fe ht] at h
    simp [State.fieldOf?, State.fieldNamed?, hfo] at h
  | some x =>
    obtain ⟨cf, kf, fi, f⟩ := x
    obtain ⟨g1, cell2, g2, g3, -, -, g6⟩ := Term.field_spec hfo ht h
    exact ⟨cf, kf, fi, f, cell2, hfo, g1, g2, g3, g6, hA _ (Array.getElem?_eq_some_iff.mp g2).1⟩
theorem ty_prim {t : FieldType} (ht : ∀ C, t ≠ .object C) (h : (Cond.arrayClass t).before args s = true) : ∃ cA, ArrOfT s cA t ∧ va_RA s cA t ∧ s.vm.findClass ("[" ++ t.toString) = some cA := by
  obtain ⟨c, k, comp, h1, h2, h3⟩ := Cond.arrayClass_spec h
  refine ⟨c, fun N z => ⟨(fun k h => by cases h), k, h2, comp, h3⟩, ?_, h1⟩
  cases t <;> first | exact absurd rfl (ht _) | exact h1
theorem ty_obj {C : String} (h : (Cond.arrayOver (.object C)).before args s = true) : ∃ cA, ArrOfT s cA (.object C) ∧ va_RA s cA (.object C) ∧ s.vm.findClass ("[" ++ (FieldType.object C).toString) = some cA := by
  obtain ⟨comp, c, k, h1, -, h2, h3, h4⟩ := Cond.arrayOver_spec h
  exact ⟨c, fun N z => ⟨(fun k h => by cases h), k, h2, comp, h3⟩, ⟨k, comp, h2, h3, h1, h4⟩, h4⟩
theorem cl_one (hts : ∀ w ∈ lw_tbl, w.before args s = true) {C : String} {T : u_T} {N : Nat} (hin : ∀ w ∈ u_ws C T N, w ∈ lw_all) (hi : Cond.instantiable C N ∈ lw_all) : ∃ x : ClassId × (Nat → Nat), u_Kn s C T N x.1 x.2 := by
  obtain ⟨c, i, h⟩ := u_known (fun w hw => hts w (lw_all_tbl hw)) hin (hts _ (lw_all_tbl hi))
  exact ⟨(c, i), h⟩
theorem cl_all (hts : ∀ w ∈ lw_tbl, w.before args s = true) : ∀ q ∈ pb_cl, ∃ x : ClassId × (Nat → Nat), u_Kn s q.1 q.2.1 q.2.2 x.1 x.2 :=
  List.forall_mem_cons.mpr ⟨cl_one hts in_X1 q94, List.forall_mem_cons.mpr ⟨cl_one hts in_X2 q131, List.forall_mem_cons.mpr ⟨cl_one hts in_X3 q1732, List.forall_mem_cons.mpr ⟨cl_one hts in_X4 q405, List.forall_mem_cons.mpr ⟨cl_one hts in_X5 q456, List.forall_mem_cons.mpr ⟨cl_one hts in_X8 q492, List.forall_mem_cons.mpr ⟨cl_one hts in_X9 q1636, List.forall_mem_cons.mpr ⟨cl_one hts in_X17 q1686, List.forall_mem_cons.mpr ⟨cl_one hts in_X13 q1055, List.forall_mem_cons.mpr ⟨cl_one hts in_X10 q622, List.forall_mem_cons.mpr ⟨cl_one hts in_X11 q753, List.forall_mem_cons.mpr ⟨cl_one hts in_X12 q975, List.forall_mem_cons.mpr ⟨cl_one hts in_X14 q1225, List.forall_mem_cons.mpr ⟨cl_one hts in_X15 q1243, List.forall_mem_cons.mpr ⟨cl_one hts in_X16 q1401, List.forall_mem_cons.mpr ⟨cl_one hts in_J2 q102, List.forall_mem_cons.mpr ⟨cl_one hts in_J15 q529, List.forall_mem_cons.mpr ⟨cl_one hts in_J19 q1276, List.forall_mem_cons.mpr ⟨cl_one hts in_J20 q1450, fun q h => (List.not_mem_nil h).elim⟩⟩⟩⟩⟩⟩⟩⟩⟩⟩⟩⟩⟩⟩⟩⟩⟩⟩⟩
theorem world_K (hts : ∀ w ∈ lw_tbl, w.before args s = true) : ∃ (D : va_G) (dA : Nat → ClassId), va_K D pb_cl (pb_ty dA) s ∧ s.vm.findClass "[I" = some (dA 0) ∧ s.vm.findClass "[Ljava/lang/Object;" = some (dA 4) ∧ s.vm.findClass "[LPolygonBoard$Operation;" = some (dA 5) := by
  have h0 : ∀ c : Nat, ∃ x : ClassId × (Nat → Nat), ∀ q, pb_cl[c]? = some q → u_Kn s q.1 q.2.1 q.2.2 x.1 x.2 := by
    intro c
    cases hc : pb_cl[c]? with
    | none => exact ⟨(0, fun _ => 0), fun q h => by cases h⟩
    | some q =>
      obtain ⟨x, hx⟩ := cl_all hts q (List.mem_of_getElem? hc)
      exact ⟨x, fun q' h => by cases h; exact hx⟩
  obtain ⟨f, hf⟩ := Classical.axiomOfChoice h0
  obtain ⟨c0, a0, r0, n0⟩ := ty_prim (t := .int) (fun C h => by cases h) (hts _ (lw_all_tbl q417))
  obtain ⟨c1, a1, r1, n1⟩ := ty_prim (t := .boolean) (fun C h => by cases h) (hts _ (lw_all_tbl q1263))
  obtain ⟨c2, a2, r2, n2⟩ := ty_prim (t := .long) (fun C h => by cases h) (hts _ (lw_all_tbl q2117))
  obtain ⟨c3, a3, r3, n3⟩ := ty_prim (t := .double) (fun C h => by cases h) (hts _ (lw_all_tbl q2118))
  obtain ⟨c4, a4, r4, n4⟩ := ty_obj (C := "java/lang/Object") (hts _ (by decide +kernel))
  obtain ⟨c5, a5, r5, n5⟩ := ty_obj (C := "PolygonBoard$Operation") (hts _ (by decide +kernel))
  refine ⟨(fun c => (f c).1, fun c => (f c).2), fun k => match k with | 0 => c0 | 1 => c1 | 2 => c2 | 3 => c3 | 4 => c4 | _ => c5, ⟨fun c q hq => hf c q hq, ?_⟩, n0, n4, n5⟩
  intro k q hk
  match k, hk with
  | 0, hk => cases hk; exact ⟨a0, r0⟩
  | 1, hk => cases hk; exact ⟨a1, r1⟩
  | 2, hk => cases hk; exact ⟨a2, r2⟩
  | 3, hk => cases hk; exact ⟨a3, r3⟩
  | 4, hk => cases hk; exact ⟨a4, r4⟩
  | 5, hk => cases hk; exact ⟨a5, r5⟩
  | n + 6, hk => exact absurd hk (by simp [pb_ty])
theorem world_Nw (hts : ∀ w ∈ lw_tbl, w.before args s = true) : ∀ q ∈ lw_tbl, pb_nw q = true → va_Nw q s := by
  intro q hq hn
  have h := hts q hq
  cases q <;> first | exact (Bool.false_ne_true hn).elim | exact va_Nw.of rfl h
theorem world_Fw (hts : ∀ w ∈ lw_tbl, w.before args s = true) : ∀ q ∈ pb_Fws, va_Fw q.1 q.2.1 q.2.2 s := by
  have k : ∀ q ∈ pb_Fws, Cond.declares q.2.1 ∈ lw_tbl ∧ Cond.interfaceMethod q.2.1.cls q.2.1.cls q.2.1.name q.2.1.desc ∈ lw_tbl ∧ Cond.publicMethod q.2.2 ∈ lw_tbl ∧ Cond.unhidden q.1 q.2.1.name q.2.1.desc ∈ lw_tbl ∧ Cond.castable q.1 q.2.1.cls ∈ lw_tbl := by decide +kernel
  intro q hq
  obtain ⟨h1, h2, h3, h4, h5⟩ := k q hq
  exact va_Fw.of (hts _ h1) (hts _ h2) (hts _ h3) (hts _ h4) (hts _ h5)
end WLD
