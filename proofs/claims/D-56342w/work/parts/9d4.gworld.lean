set_option maxRecDepth 100000
/-! the heap's constants at the law's start -/
abbrev tDC : Term := .static "java/util/ArrayList" "DEFAULTCAPACITY_EMPTY_ELEMENTDATA" "[Ljava/lang/Object;"
abbrev tNS : Term := .static "PolygonBoard$Region" "NO_SPANS" "LPolygonBoard$Spans;"
abbrev tNE : Term := .field tNS "PolygonBoard$Spans" "ends" "[I"
abbrev tOp (n : String) : Term := .static "PolygonBoard$Operation" n "LPolygonBoard$Operation;"
abbrev tVS : Term := .static "PolygonBoard$Operation" "$VALUES" "[LPolygonBoard$Operation;"
abbrev tIC : Term := .static "java/lang/Integer$IntegerCache" "cache" "[Ljava/lang/Integer;"
def mkG (a : List Nat) (ad : Nat → Nat) (n : Nat) : Nat := if n < 256 then a.getD n 0 else ad (n - 256)
theorem mkG_hi (a : List Nat) (ad : Nat → Nat) (j : Nat) : mkG a ad (256 + j) = ad j := by
  unfold mkG
  rw [if_neg (by omega), show 256 + j - 256 = j from by omega]
theorem vb_c_iZ (j : Nat) : vb_c j = iZ ((j : Int) - 128) := by
  show Int32.ofNat j - 128 = Int32.ofInt ((j : Int) - 128)
  rw [Int32.ofInt_sub]
  rfl
section GWL
variable {args : Array Value} {s : State}
theorem va_eqV {t u : Term} {v : Value} (h : (Cond.eq t u).before args s = true) (hu : u.eval args s none [] s = some v) : t.eval args s none [] s = some v := va_eqI (by simpa [Cond.before, Cond.holds] using h) hu
theorem gw_dc (hts : ∀ w ∈ lw_tbl, w.before args s = true) (hgv : (Jvm.Cond.and given_1 narrow_1).before args s = true) : ∃ (a : Nat) (cell : Cell), va_Z "java/util/ArrayList" "DEFAULTCAPACITY_EMPTY_ELEMENTDATA" "[Ljava/lang/Object;" (.ref a) (fun q => s.heap.size ≤ q) s s.heap ∧ s.heap[a]? = some cell ∧ s.vm.findClass "[Ljava/lang/Object;" = some cell.cls ∧ cell.vm.isStatics = false ∧ cell.vm ≠ .unknown ∧ cell.slots.size = 0 := by
  have hs := flat_of_before _ hgv
  obtain ⟨a, cell, h1, h2, h3, h4, h5, h6, h7⟩ := arr_ex (args := args) (s := s) (t := tDC) (nm := "[Ljava/lang/Object;") (n := 0) (by decide) (hs _ (by decide +kernel)) (hs _ (by decide +kernel))
  exact ⟨a, cell, va_Zof (hts _ (by decide +kernel)) (hts _ (by decide +kernel)) h1 st_hA, h3, h4, h5, h6, h7⟩
theorem gw_ns (hts : ∀ w ∈ lw_tbl, w.before args s = true) (hgv : (Jvm.Cond.and given_1 narrow_1).before args s = true) {cC : ClassId} {iS : Nat → Nat} (hK : u_Kn s RX4 TX4 2 cC iS) : ∃ (a1 a2 : Nat) (c1 c2 : Cell), va_Z "PolygonBoard$Region" "NO_SPANS" "LPolygonBoard$Spans;" (.ref a1) (fun q => s.heap.size ≤ q) s s.heap ∧ s.heap[a1]? = some c1 ∧ s.vm.findClass RX4 = some c1.cls ∧ c1.vm.isStatics = false ∧ c1.vm ≠ .unknown ∧ (∀ k, k < 2 → c1.slots[iS k]? = some (vp_V [.ref a2, .int (iZ 0)] k)) ∧
    s.heap[a2]? = some c2 ∧ s.vm.findClass "[I" = some c2.cls ∧ c2.vm.isStatics = false ∧ c2.vm ≠ .unknown ∧ c2.slots.size = 8 ∧ ∀ j, j < 8 → c2.slots[j]? = some (.int (iZ 0)) := by
  have hs := flat_of_before _ hgv
  obtain ⟨a1, c1, h1, h2, h3, h4⟩ := obj_ex (args := args) (s := s) (t := tNS) (nm := RX4) (hs _ (by decide +kernel))
  obtain ⟨a2, c2, k1, k2, k3, k4, k5, k6, k7⟩ := arr_ex (args := args) (s := s) (t := tNE) (nm := "[I") (n := 8) (by decide) (hs _ (by decide +kernel)) (hs _ (by decide +kernel))
  have f0 := fld_at (o := "PolygonBoard$Spans") (n := "ends") (d := "[I") (hK.1 0 (by decide)) h1 h2 k1
  have f1 := fld_at (o := "PolygonBoard$Spans") (n := "count") (d := "I") (hK.1 1 (by decide)) h1 h2 (va_eqt (z := 0) (hs _ (by decide +kernel)))
  refine ⟨a1, a2, c1, c2, va_Zof (hts _ (by decide +kernel)) (hts _ (by decide +kernel)) h1 st_hA, h2, h3, h4, f0.2, ?_, k3, k4, k5, k6, k7, ?_⟩
  · intro k hk
    match k, hk with
    | 0, _ => exact f0.1
    | 1, _ => exact f1.1
    | n + 2, h => exact absurd h (by omega)
  · intro j hj
    match j, hj with
    | 0, _ => exact arr_at (z := 0) k1 k2 (va_eqt (z := 0) (hs _ (by decide +kernel)))
    | 1, _ => exact arr_at (z := 1) k1 k2 (va_eqt (z := 0) (hs _ (by decide +kernel)))
    | 2, _ => exact arr_at (z := 2) k1 k2 (va_eqt (z := 0) (hs _ (by decide +kernel)))
    | 3, _ => exact arr_at (z := 3) k1 k2 (va_eqt (z := 0) (hs _ (by decide +kernel)))
    | 4, _ => exact arr_at (z := 4) k1 k2 (va_eqt (z := 0) (hs _ (by decide +kernel)))
    | 5, _ => exact arr_at (z := 5) k1 k2 (va_eqt (z := 0) (hs _ (by decide +kernel)))
    | 6, _ => exact arr_at (z := 6) k1 k2 (va_eqt (z := 0) (hs _ (by decide +kernel)))
    | 7, _ => exact arr_at (z := 7) k1 k2 (va_eqt (z := 0) (hs _ (by decide +kernel)))
    | n + 8, h => exact absurd h (by omega)
theorem gw_op {n cl : String} {z : Int32} (h1 : (Cond.exactly (tOp n) cl).before args s = true) (h2 : (Cond.eq (.field (tOp n) "PolygonBoard$Operation" "letter" "C") (.int z)).before args s = true) (h3 : (Cond.laysStatic "PolygonBoard$Operation" n "LPolygonBoard$Operation;").before args s = true) (h4 : (Cond.initialized "PolygonBoard$Operation").before args s = true) : ∃ a : Nat, (tOp n).eval args s none [] s = some (.ref a) ∧ va_Z "PolygonBoard$Operation" n "LPolygonBoard$Operation;" (.ref a) (fun q => s.heap.size ≤ q) s s.heap ∧ va_O cl a (fun q => s.heap.size ≤ q) s s.heap ∧ va_OF "PolygonBoard$Operation" "letter" "C" (.int z) a (fun q => s.heap.size ≤ q) s s.heap := by
  obtain ⟨a, c, k1, -⟩ := obj_ex h1
  exact ⟨a, k1, va_Zof h3 h4 k1 st_hA, va_Oof h1 k1 st_hA, of_at k1 (va_eqt h2) st_hA⟩
theorem gw_vs (hts : ∀ w ∈ lw_tbl, w.before args s = true) (hgv : (Jvm.Cond.and given_1 narrow_1).before args s = true) {a3 a4 a5 a6 : Nat} (e3 : (tOp "UNION").eval args s none [] s = some (.ref a3)) (e4 : (tOp "INTERSECTION").eval args s none [] s = some (.ref a4)) (e5 : (tOp "DIFFERENCE").eval args s none [] s = some (.ref a5)) (e6 : (tOp "EXCLUSIVE").eval args s none [] s = some (.ref a6)) :
    ∃ (a : Nat) (cell : Cell), va_Z "PolygonBoard$Operation" "$VALUES" "[LPolygonBoard$Operation;" (.ref a) (fun q => s.heap.size ≤ q) s s.heap ∧ s.heap[a]? = some cell ∧ s.vm.findClass "[LPolygonBoard$Operation;" = some cell.cls ∧ cell.vm.isStatics = false ∧ cell.vm ≠ .unknown ∧ cell.slots.size = 4 ∧ cell.slots[0]? = some (.ref a3) ∧ cell.slots[1]? = some (.ref a4) ∧ cell.slots[2]? = some (.ref a5) ∧ cell.slots[3]? = some (.ref a6) := by
  have hs := flat_of_before _ hgv
  obtain ⟨a, cell, k1, k2, k3, k4, k5, k6, k7⟩ := arr_ex (args := args) (s := s) (t := tVS) (nm := "[LPolygonBoard$Operation;") (n := 4) (by decide) (hs _ (by decide +kernel)) (hs _ (by decide +kernel))
  exact ⟨a, cell, va_Zof (hts _ (by decide +kernel)) (hts _ (by decide +kernel)) k1 st_hA, k3, k4, k5, k6, k7, arr_at (z := 0) k1 k2 (va_eqV (hs _ (by decide +kernel)) e3), arr_at (z := 1) k1 k2 (va_eqV (hs _ (by decide +kernel)) e4), arr_at (z := 2) k1 k2 (va_eqV (hs _ (by decide +kernel)) e5), arr_at (z := 3) k1 k2 (va_eqV (hs _ (by decide +kernel)) e6)⟩
theorem gw_ic (hts : ∀ w ∈ lw_tbl, w.before args s = true) (hgv : (Jvm.Cond.and given_1 narrow_1).before args s = true) : ∃ (a : Nat) (ad : Nat → Nat), va_Z "java/lang/Integer$IntegerCache" "high" "I" (.int 127) (fun q => s.heap.size ≤ q) s s.heap ∧ va_Z "java/lang/Integer$IntegerCache" "cache" "[Ljava/lang/Integer;" (.ref a) (fun q => s.heap.size ≤ q) s s.heap ∧ va_T (.object "java/lang/Integer") a 256 (fun j => .ref (ad j)) (fun q => s.heap.size ≤ q) s s.heap ∧ vb_C ad (fun q => s.heap.size ≤ q) s s.heap := by
  have hs := flat_of_before _ hgv
  have hlen : (Term.length tIC).eval args s none [] s = some (.int (Int32.ofNat 256)) := va_eqt (hs _ (by decide +kernel))
  obtain ⟨ad, hC, hel⟩ := vb_Cof (args := args) (s := s) (A := fun q => s.heap.size ≤ q) (st := tIC) rfl hlen (hs _ (by decide +kernel)) st_hA
  obtain ⟨a, ha, hT⟩ := va_Tof (args := args) (s := s) (tm := tIC) (ty := .object "java/lang/Integer") (N := 256) (f := fun j => .ref (ad j)) (A := fun q => s.heap.size ≤ q) (by decide) (hs _ (by decide +kernel)) hlen hel st_hA
  exact ⟨a, ad, va_Zof (hts _ (by decide +kernel)) (hts _ (by decide +kernel)) (va_eqi (hs _ (by decide +kernel))) st_hA, va_Zof (hts _ (by decide +kernel)) (hts _ (by decide +kernel)) ha st_hA, hT, hC⟩
theorem gw_Nc (hgv : (Jvm.Cond.and given_1 narrow_1).before args s = true) : pb_Nc s := by
  have hs := flat_of_before _ hgv
  unfold pb_Nc
  refine List.forall_mem_cons.mpr ⟨va_Nc.of (args := args) (hs _ (by decide +kernel)), List.forall_mem_cons.mpr ⟨va_Nc.of (args := args) (hs _ (by decide +kernel)), List.forall_mem_cons.mpr ⟨va_Nc.of (args := args) (hs _ (by decide +kernel)), List.forall_mem_cons.mpr ⟨va_Nc.of (args := args) (hs _ (by decide +kernel)), List.forall_mem_cons.mpr ⟨va_Nc.of (args := args) (hs _ (by decide +kernel)), List.forall_mem_cons.mpr ⟨va_Nc.of (args := args) (hs _ (by decide +kernel)), fun q h => (List.not_mem_nil h).elim⟩⟩⟩⟩⟩⟩
theorem law_world (hts : ∀ w ∈ lw_tbl, w.before args s = true) (hgv : (Jvm.Cond.and given_1 narrow_1).before args s = true) : ∃ w : pb_W, w.2.2.2 = s.heap.size ∧ pb_K w s ∧ pb_G w s s.heap ∧ pb_Nc s := by
  have hs := flat_of_before _ hgv
  obtain ⟨D, dA, hK, n0, n4, n5⟩ := world_K hts
  obtain ⟨a0, c0, z0, z1, z2, z3, z4, z5⟩ := gw_dc hts hgv
  obtain ⟨a1, a2, c1, c2, y0, y1, y2, y3, y4, y5, y6, y7, y8, y9, y10, y11⟩ := gw_ns hts hgv (hK.1 3 _ rfl)
  obtain ⟨a3, e3, u1, u2, u3⟩ := gw_op (args := args) (s := s) (n := "UNION") (cl := "PolygonBoard$Operation$1") (z := 117) (hs _ (by decide +kernel)) (hs _ (by decide +kernel)) (hts _ (by decide +kernel)) (hts _ (by decide +kernel))
  obtain ⟨a4, e4, i1, i2, i3⟩ := gw_op (args := args) (s := s) (n := "INTERSECTION") (cl := "PolygonBoard$Operation$2") (z := 105) (hs _ (by decide +kernel)) (hs _ (by decide +kernel)) (hts _ (by decide +kernel)) (hts _ (by decide +kernel))
  obtain ⟨a5, e5, d1, d2, d3⟩ := gw_op (args := args) (s := s) (n := "DIFFERENCE") (cl := "PolygonBoard$Operation$3") (z := 100) (hs _ (by decide +kernel)) (hs _ (by decide +kernel)) (hts _ (by decide +kernel)) (hts _ (by decide +kernel))
  obtain ⟨a6, e6, x1, x2, x3⟩ := gw_op (args := args) (s := s) (n := "EXCLUSIVE") (cl := "PolygonBoard$Operation$4") (z := 120) (hs _ (by decide +kernel)) (hs _ (by decide +kernel)) (hts _ (by decide +kernel)) (hts _ (by decide +kernel))
  obtain ⟨a7, c7, v1, v2, v3, v4, v5, v6, v7, v8, v9, v10⟩ := gw_vs hts hgv e3 e4 e5 e6
  obtain ⟨a8, ad, q1, q2, q3, q4⟩ := gw_ic hts hgv
  obtain ⟨a9, m1⟩ := va_Mi.of (args := args) (s := s) (C := "[Ljava/lang/Object;") (hs _ (by decide +kernel))
  refine ⟨(D, dA, mkG [a0, a1, a2, a3, a4, a5, a6, a7, a8, a9] ad, s.heap.size), rfl, ⟨hK, world_Nw hts, world_Fw hts, va_AO.of (hts _ (by decide +kernel)), va_AO.of (hts _ (by decide +kernel)), m1⟩, ?_, gw_Nc hgv⟩
  have lt : ∀ {a : Nat} {c : Cell}, s.heap[a]? = some c → a < s.heap.size := fun h => (Array.getElem?_eq_some_iff.mp h).1
  have k3 : s.vm.findClass RX4 = some (D.1 3) := (hK.1 3 _ rfl).2.1
  have k17 : s.vm.findClass "java/lang/Integer" = some (D.1 17) := (hK.1 17 _ rfl).2.1
  have s17 : SlotIs s "java/lang/Integer" "value" "I" (D.2 17 0) := (hK.1 17 _ rfl).1 0 (by decide)
  refine ⟨Nat.le_refl _, z0, lt z1, ⟨c0, z1, Option.some.inj (z2.symm.trans n4), z3, z4, z5, fun j hj => absurd hj (Nat.not_lt_zero j)⟩, y0, lt y1, lt y6, ⟨_, c1, rfl, y1, Option.some.inj (y2.symm.trans k3), y3, y4, y5⟩, ⟨c2, y6, Option.some.inj (y7.symm.trans n0), y8, y9, y10, y11⟩, ⟨u1, u2, u3⟩, ⟨i1, i2, i3⟩, ⟨d1, d2, d3⟩, ⟨x1, x2, x3⟩, ⟨v1, lt v2, ⟨c7, v2, Option.some.inj (v3.symm.trans n5), v4, v5, v6, ?_⟩⟩, ⟨q1, q2, ?_, ?_⟩, ?_, ?_⟩
  · intro j hj
    match j, hj with
    | 0, _ => exact v7
    | 1, _ => exact v8
    | 2, _ => exact v9
    | 3, _ => exact v10
    | n + 4, h => exact absurd h (by omega)
  · have e : (fun j => Value.ref (ad j)) = fun j => Value.ref (mkG [a0, a1, a2, a3, a4, a5, a6, a7, a8, a9] ad (256 + j)) := funext fun j => by rw [mkG_hi]
    rw [← e]
    exact q3
  · intro j hj
    show mkG [a0, a1, a2, a3, a4, a5, a6, a7, a8, a9] ad (256 + j) < _ ∧ pb_R _ _ (mkG [a0, a1, a2, a3, a4, a5, a6, a7, a8, a9] ad (256 + j)) 17 _
    rw [mkG_hi]
    obtain ⟨cell, g1, g2, g3, g4⟩ := q4.1 j hj
    obtain ⟨cf, kf, fi, f, cell2, o1, o2, o3, o4, o5, o6⟩ := q4.2 j hj
    cases g1.symm.trans o3
    refine ⟨lt g1, ⟨_, cell, rfl, g1, Option.some.inj (g3.symm.trans k17), g2, o4, ?_⟩⟩
    intro k hk
    match k, hk with
    | 0, _ =>
      obtain ⟨cf2, kf2, fi2, f2, r1, r2⟩ := s17
      cases o1.symm.trans r1
      show cell.slots[D.2 17 0]? = _
      rw [← r2, o5]
      show some (Value.int (vb_c j)) = some (Value.int (iZ ((j : Int) - 128)))
      rw [vb_c_iZ]
    | n + 1, h => exact absurd h (Nat.not_lt_zero _ ∘ Nat.lt_of_succ_lt_succ)
  · exact vx_Zqof (hts _ (by decide +kernel)) (hts _ (by decide +kernel)) (hs _ (by decide +kernel)) st_hA
  · exact vx_Zqof (hts _ (by decide +kernel)) (hts _ (by decide +kernel)) (hs _ (by decide +kernel)) st_hA
end GWL
