set_option maxRecDepth 100000
set_option maxHeartbeats 1000000 in
theorem met_X1_isCell {w : pb_W} (l : Launch) {H : Heap} (x y : Int) (hx : -2147483648 ≤ x ∧ x ≤ 2147483647) (hy : -2147483648 ≤ y ∧ y ≤ 2147483647) : pb_M w l yX1_isCell cX1_isCell 2 (some .boolean) 1 (0) (0) [.int (iZ (x)), .int (iZ (y))] H (pb_qx (.int (iZ (bI (decide (0 ≤ x ∧ x ≤ 23) && decide (0 ≤ y ∧ y ≤ 23))))) H) := by
  refine pb_of (by decide +kernel) (Nat.le_of_ble_eq_true rfl) ?_
  intro p_ e_ s_ m_ ar_ bl_ me_ co_ ls C hh hG hl
  have hl : lv_has ls 2 [(0, .int (iZ (x))), (1, .int (iZ (y)))] := hl
  refine pb_iload_n C dX1_isCell_0 rfl (lv_at hl 0 rfl) ?_
  refine pb_ic C dX1_isCell_1 ?_
  refine pb_bip C dX1_isCell_2 (by decide) ?_
  refine pb_go_x (bc' := 0) (bs' := 0) (pb_runS (rest := []) C hG (met_X1_isBetween l x 0 23 (by omega) (by omega) (by omega)) (lw_S q332 q333 q51 q334) hdX1_isBetween rfl hl.1 rfl (Nat.le_of_ble_eq_true rfl) ⟨(Nat.le_of_ble_eq_true rfl), (Nat.le_of_ble_eq_true rfl)⟩ dX1_isCell_4) (by omega) (by omega) ?_
  refine pb_ifB_eq C dX1_isCell_7 (tgt := 24) (by decide) (fun c7_ => ?_) (fun c7_ => ?_)
  · have c7_ := of_decide_eq_false c7_
    refine pb_ic C dX1_isCell_24 ?_
    exact pb_zret C dX1_isCell_25 (by decide +kernel) (⟨by rw [decide_eq_false c7_]; rfl, rfl⟩)
  · have c7_ := of_decide_eq_true c7_
    refine pb_iload_n C dX1_isCell_10 rfl (lv_at hl 1 rfl) ?_
    refine pb_ic C dX1_isCell_11 ?_
    refine pb_bip C dX1_isCell_12 (by decide) ?_
    refine pb_go_x (bc' := 0) (bs' := 0) (pb_runS (rest := []) C hG (met_X1_isBetween l y 0 23 (by omega) (by omega) (by omega)) (lw_S q332 q333 q51 q334) hdX1_isBetween rfl hl.1 rfl (Nat.le_of_ble_eq_true rfl) ⟨(Nat.le_of_ble_eq_true rfl), (Nat.le_of_ble_eq_true rfl)⟩ dX1_isCell_14) (by omega) (by omega) ?_
    refine pb_ifB_eq C dX1_isCell_17 (tgt := 24) (by decide) (fun c17_ => ?_) (fun c17_ => ?_)
    · have c17_ := of_decide_eq_false c17_
      refine pb_ic C dX1_isCell_24 ?_
      exact pb_zret C dX1_isCell_25 (by decide +kernel) (⟨by rw [decide_eq_true c7_, decide_eq_false c17_]; rfl, rfl⟩)
    · have c17_ := of_decide_eq_true c17_
      refine pb_ic C dX1_isCell_20 ?_
      refine pb_goto C dX1_isCell_21 (tgt := 25) (by decide) ?_
      exact pb_zret C dX1_isCell_25 (by decide +kernel) (⟨by rw [decide_eq_true c7_, decide_eq_true c17_]; rfl, rfl⟩)

set_option maxHeartbeats 1000000 in
theorem met_X12_init {w : pb_W} (l : Launch) {H0 : Heap} (z c : Nat) (hz : w.2.2.2 ≤ z) (hzc : z ≤ c) (hO : pb_O w H0 c 11 [.null]) : pb_M w l yX12_init cX12_init 1 none 1 (1) (24) [.ref (c)] H0 (pb_qv (fun H1 => Cb w H1 z c H0.size (fun _ => 0) ∧ pb_F (fun q => q < H0.size ∧ q ≠ c) H0 H1)) := by
  refine pb_of (by decide +kernel) (Nat.le_of_ble_eq_true rfl) ?_
  intro p_ e_ s_ m_ ar_ bl_ me_ co_ ls C hh hG hl
  have hl : lv_has ls 1 [(0, .ref (c))] := hl
  have hlt := hO.lt
  have hFF : pb_F (fun q => q < H0.size ∧ q ≠ c) H0 H0 := pb_F.rf
  refine pb_aload_n C dX12_init_0 rfl (lv_at hl 0 rfl) ?_
  refine pb_objInit C q979 q99 q100 hl.1 ⟨(Nat.le_of_ble_eq_true rfl), (Nat.le_of_ble_eq_true rfl)⟩ dX12_init_1 ?_
  refine pb_aload_n C dX12_init_4 rfl (lv_at hl 0 rfl) ?_
  refine pb_bip C dX12_init_5 (by decide) ?_
  refine pb_newaE C 0 (by decide) (atype := .int) rfl q417 (n := 24) (by omega) rfl (bc' := 0) (bs' := 0) (by omega) (by omega) dX12_init_7 fun a1_ H1_ ha_ hn_ hN1_ => ?_
  have hs1_ : H1_.size = H0.size + 1 := hn_.1
  have hG := hG.kept (hn_.f.mono (fun _ _ _ => trivial))
  have hO := hO.kept (hn_.2 _ hO.lt)
  have hFF := hFF.tr (hn_.f.mono (fun _ _ _ => trivial))
  obtain rfl : a1_ = H0.size := by omega
  skip
  have hA := hN1_
  have hA : pb_A w H1_ (H0.size) 0 24 (fun _ => .int (iZ (0))) := hA
  refine pb_putF C in_X12 tyX12 tyX12_ok nmX12 hO (ci := 11) rfl 0 (by decide) q980 (fun _ h9 => h9) rfl rfl rfl (v := .ref (H0.size)) rfl rfl (Nat.le_of_ble_eq_true rfl) (by omega) dX12_init_9 fun H2_ hu_ hO => ?_
  have hO : pb_O w H2_ (c) 11 [.ref (H0.size)] := hO
  have hG := hG.kept (hu_.z (by omega))
  have hs_H2_ := hu_.1
  have hA := hA.kept (hu_.2 _ (by omega))
  have hFF := hFF.tr (hu_.f.mono (fun q _ hq => hq.2))
  exact pb_vret C dX12_init_12 (⟨rfl, ⟨hzc, by omega, hO, hA, gok_0⟩, hFF⟩)

set_option maxHeartbeats 1000000 in
theorem met_X12_contains {w : pb_W} (l : Launch) {H : Heap} (c : Nat) (P : Nat → Prop) (g : Nat → Nat) (hQ : Cq w H P c g) (x y : Int) (hx : -1000 ≤ x ∧ x ≤ 1000) (hy : -1000 ≤ y ∧ y ≤ 1000) : pb_M w l yX12_contains cX12_contains 3 (some .boolean) 2 (0) (0) [.ref (c), .int (iZ (x)), .int (iZ (y))] H (pb_qx (.int (iZ (bI (gcI g x y)))) H) := by
  refine pb_of (by decide +kernel) (Nat.le_of_ble_eq_true rfl) ?_
  intro p_ e_ s_ m_ ar_ bl_ me_ co_ ls C hh hG hl
  have hl : lv_has ls 3 [(0, .ref (c)), (1, .int (iZ (x))), (2, .int (iZ (y)))] := hl
  obtain ⟨r, hPc, hPr, hO, hA, hok⟩ := id hQ
  refine pb_iload_n C dX12_contains_0 rfl (lv_at hl 1 rfl) ?_
  refine pb_iload_n C dX12_contains_1 rfl (lv_at hl 2 rfl) ?_
  refine pb_go_x (bc' := 0) (bs' := 0) (pb_runSN (rest := []) C hG (met_X1_isCell l x y (by omega) (by omega)) q1037 q1038 q51 q1039 hdX1_isCell rfl hl.1 rfl (Nat.le_of_ble_eq_true rfl) ⟨(Nat.le_of_ble_eq_true rfl), (Nat.le_of_ble_eq_true rfl)⟩ dX12_contains_2) (by omega) (by omega) ?_
  refine pb_ifB_eq C dX12_contains_5 (tgt := 26) (by decide) (fun c5_ => ?_) (fun c5_ => ?_)
  · refine pb_ic C dX12_contains_26 ?_
    exact pb_zret C dX12_contains_27 (by decide +kernel) (⟨by rw [show gcI g x y = false from by unfold gcI; rw [c5_]; rfl]; rfl, rfl⟩)
  · have hxy : (0 ≤ x ∧ x ≤ 23) ∧ (0 ≤ y ∧ y ≤ 23) := by rw [Bool.and_eq_true, decide_eq_true_eq, decide_eq_true_eq] at c5_; exact c5_
    have hgy := hok.1 y.toNat
    have hsr := Nat.shiftRight_le (g y.toNat) x.toNat
    refine pb_aload_n C dX12_contains_8 rfl (lv_at hl 0 rfl) ?_
    refine pb_get C in_X12 hO (ci := 11) rfl 0 (by decide) q980 (fun _ h9 => h9) (v := .ref (r)) rfl dX12_contains_9 ?_
    refine pb_iload_n C dX12_contains_12 rfl (lv_at hl 2 rfl) ?_
    refine pb_iald C hA (i := y) (v := .int (iZ ((((g ((y).toNat)) : Nat) : Int)))) (by omega) rfl dX12_contains_13 ?_
    refine pb_iload_n C dX12_contains_14 rfl (lv_at hl 1 rfl) ?_
    refine pb_eq (g2 := F0 m_ 15 ls [.int (iZ (((x.toNat : Nat) : Int))), .int (iZ ((((g ((y).toNat)) : Nat) : Int)))]) (congrArg (fun z9 => F0 m_ 15 ls [.int (iZ z9), .int (iZ ((((g ((y).toNat)) : Nat) : Int)))]) (show x = ((x.toNat : Nat) : Int) from (by omega))) ?_
    refine pb_ishr C dX12_contains_15 (x := (g ((y).toNat))) (y := x.toNat) (by omega) (by omega) ?_
    refine pb_ic C dX12_contains_16 ?_
    refine pb_iand C dX12_contains_17 (x := ((g ((y).toNat)) >>> x.toNat)) (y := 1) ?_
    refine pb_ic C dX12_contains_18 ?_
    have hbt := pb_bit (g y.toNat) x.toNat
    have hle1 := pb_a1 (g y.toNat >>> x.toNat)
    refine pb_icmp_ne C dX12_contains_19 (x := (((((g ((y).toNat)) >>> x.toNat) &&& 1) : Nat) : Int)) (y := 1) (tgt := 26) (by decide) (by omega) (by omega) (fun c19_ => ?_) (fun c19_ => ?_)
    · refine pb_ic C dX12_contains_26 ?_
      exact pb_zret C dX12_contains_27 (by decide +kernel) (⟨by rw [show gcI g x y = false from by unfold gcI; rw [c5_]; rw [hbt] at c19_; revert c19_; cases (g y.toNat).testBit x.toNat <;> simp]; rfl, rfl⟩)
    · refine pb_ic C dX12_contains_22 ?_
      refine pb_goto C dX12_contains_23 (tgt := 27) (by decide) ?_
      exact pb_zret C dX12_contains_27 (by decide +kernel) (⟨by rw [show gcI g x y = true from by unfold gcI; rw [c5_]; rw [hbt] at c19_; revert c19_; cases (g y.toNat).testBit x.toNat <;> simp]; rfl, rfl⟩)

set_option maxHeartbeats 1000000 in
theorem met_X12_row {w : pb_W} (l : Launch) {H : Heap} (c : Nat) (P : Nat → Prop) (g : Nat → Nat) (hQ : Cq w H P c g) (y : Int) (hy : -1000 ≤ y ∧ y ≤ 1000) : pb_M w l yX12_row cX12_row 2 (some .int) 1 (0) (0) [.ref (c), .int (iZ (y))] H (pb_qx (.int (iZ ((grI g y : Nat) : Int))) H) := by
  refine pb_of (by decide +kernel) (Nat.le_of_ble_eq_true rfl) ?_
  intro p_ e_ s_ m_ ar_ bl_ me_ co_ ls C hh hG hl
  have hl : lv_has ls 2 [(0, .ref (c)), (1, .int (iZ (y)))] := hl
  obtain ⟨r, hPc, hPr, hO, hA, hok⟩ := id hQ
  refine pb_iload_n C dX12_row_0 rfl (lv_at hl 1 rfl) ?_
  refine pb_ic C dX12_row_1 ?_
  refine pb_bip C dX12_row_2 (by decide) ?_
  refine pb_go_x (bc' := 0) (bs' := 0) (pb_runSN (rest := []) C hG (met_X1_isBetween l y 0 23 (by omega) (by omega) (by omega)) q1179 q333 q51 q334 hdX1_isBetween rfl hl.1 rfl (Nat.le_of_ble_eq_true rfl) ⟨(Nat.le_of_ble_eq_true rfl), (Nat.le_of_ble_eq_true rfl)⟩ dX12_row_4) (by omega) (by omega) ?_
  refine pb_ifB_eq C dX12_row_7 (tgt := 19) (by decide) (fun c7_ => ?_) (fun c7_ => ?_)
  · have c7_ := of_decide_eq_false c7_
    refine pb_ic C dX12_row_19 ?_
    exact pb_iret C dX12_row_20 (⟨by rw [grI, if_neg c7_]; rfl, rfl⟩)
  · have c7_ := of_decide_eq_true c7_
    refine pb_aload_n C dX12_row_10 rfl (lv_at hl 0 rfl) ?_
    refine pb_get C in_X12 hO (ci := 11) rfl 0 (by decide) q980 (fun _ h9 => h9) (v := .ref (r)) rfl dX12_row_11 ?_
    refine pb_iload_n C dX12_row_14 rfl (lv_at hl 1 rfl) ?_
    refine pb_iald C hA (i := y) (v := .int (iZ ((((g ((y).toNat)) : Nat) : Int)))) (by omega) rfl dX12_row_15 ?_
    refine pb_goto C dX12_row_16 (tgt := 20) (by decide) ?_
    exact pb_iret C dX12_row_20 (⟨by rw [grI, if_pos c7_], rfl⟩)

set_option maxHeartbeats 1000000 in
theorem met_X12_area {w : pb_W} (l : Launch) {H : Heap} (c : Nat) (P : Nat → Prop) (g : Nat → Nat) (hQ : Cq w H P c g) : pb_M w l yX12_area cX12_area 6 (some .int) 1 (0) (0) [.ref (c)] H (pb_qx (.int (iZ ((arB g 24 : Nat) : Int))) H) := by
  refine pb_of (by decide +kernel) (Nat.le_of_ble_eq_true rfl) ?_
  intro p_ e_ s_ m_ ar_ bl_ me_ co_ ls C hh hG hl
  have hl : lv_has ls 6 [(0, .ref (c))] := hl
  obtain ⟨r, hPc, hPr, hO, hA, hok⟩ := id hQ
  have L13 : ∀ (n_ : Nat) (k t9 : Nat), 24 - k = n_ → (k ≤ 24) → (t9 = arB g k) → ∀ (ls : Array Slot), lv_has ls 6 [(1, .int (iZ (((t9 : Nat) : Int)))), (2, .ref (r)), (3, .int (iZ (((24 : Nat) : Int)))), (4, .int (iZ (((k : Nat) : Int))))] → pb_V w.2.2.2 p_ l e_ (pb_rm 1 (0) (0)) s_ m_ ar_ bl_ me_ co_ H (0) (0) (pb_E w bl_ ar_ s_ (0) (0) (pb_qx (.int (iZ ((arB g 24 : Nat) : Int))) H)) (F0 m_ 13 ls []) := by
    intro n_
    induction n_ using Nat.strongRecOn with
    | _ n_ ih13 =>
    intro k t9 hm_ hk ht ls hl
    refine pb_iload C dX12_area_13 (lv_at hl 3 rfl) ?_
    refine pb_iload_n C dX12_area_15 rfl (lv_at hl 2 rfl) ?_
    refine pb_icmp_ge C dX12_area_16 (x := ((k : Nat) : Int)) (y := ((24 : Nat) : Int)) (tgt := 39) (by decide) (by omega) (by omega) (fun c16_ => ?_) (fun c16_ => ?_)
    · refine pb_iload_n C dX12_area_39 rfl (lv_at hl 0 rfl) ?_
      exact pb_iret C dX12_area_40 (⟨by rw [ht, show k = 24 from by omega], rfl⟩)
    · refine pb_aload_n C dX12_area_19 rfl (lv_at hl 1 rfl) ?_
      refine pb_iload C dX12_area_20 (lv_at hl 3 rfl) ?_
      refine pb_iald C hA (i := ((k : Nat) : Int)) (v := .int (iZ ((((g k) : Nat) : Int)))) (by omega) rfl dX12_area_22 ?_
      refine pb_istore C dX12_area_23 hl (by decide) rfl fun ls hl => ?_
      have hl : lv_has ls 6 [(5, .int (iZ ((((g k) : Nat) : Int)))), (1, .int (iZ (((t9 : Nat) : Int)))), (2, .ref (r)), (3, .int (iZ (((24 : Nat) : Int)))), (4, .int (iZ (((k : Nat) : Int))))] := hl
      refine pb_iload_n C dX12_area_25 rfl (lv_at hl 1 rfl) ?_
      refine pb_iload C dX12_area_26 (lv_at hl 0 rfl) ?_
      refine pb_go_x (bc' := 0) (bs' := 0) (pb_runS (rest := [.int (iZ (((t9 : Nat) : Int)))]) C hG (met_J19_bitCount l (g k) (by have := hok.1 k; omega)) (lw_S q1130 q1131 q84 q1132) hdJ19_bitCount rfl hl.1 rfl (Nat.le_of_ble_eq_true rfl) ⟨(Nat.le_of_ble_eq_true rfl), (Nat.le_of_ble_eq_true rfl)⟩ dX12_area_28) (by omega) (by omega) ?_
      refine pb_iadd C dX12_area_31 ?_
      refine pb_istore_n C dX12_area_32 rfl hl (by decide) rfl fun ls hl => ?_
      have hl : lv_has ls 6 [(1, .int (iZ ((((t9 + (bcN (g k))) : Nat) : Int)))), (5, .int (iZ ((((g k) : Nat) : Int)))), (2, .ref (r)), (3, .int (iZ (((24 : Nat) : Int)))), (4, .int (iZ (((k : Nat) : Int))))] := hl
      refine pb_iinc C dX12_area_33 hl (j := 4) (x := (((k : Nat) : Int))) rfl (by decide) rfl fun ls hl => ?_
      have hl : lv_has ls 6 [(4, .int (iZ ((((k + 1) : Nat) : Int)))), (1, .int (iZ ((((t9 + (bcN (g k))) : Nat) : Int)))), (5, .int (iZ ((((g k) : Nat) : Int)))), (2, .ref (r)), (3, .int (iZ (((24 : Nat) : Int))))] := hl
      refine pb_goto C dX12_area_36 (tgt := 13) (by decide) ?_
      exact pb_V.mono (by omega) (by omega) (ih13 _ (by omega) (k + 1) (t9 + (bcN (g k))) rfl (by omega) (by rw [arB, sm, ← arB, ← ht]) ls (lv_sub hl [1, 3, 4, 0] rfl))
  refine pb_ic C dX12_area_0 ?_
  refine pb_istore_n C dX12_area_1 rfl hl (by decide) rfl fun ls hl => ?_
  have hl : lv_has ls 6 [(1, .int (iZ (0))), (0, .ref (c))] := hl
  refine pb_aload_n C dX12_area_2 rfl (lv_at hl 1 rfl) ?_
  refine pb_get C in_X12 hO (ci := 11) rfl 0 (by decide) q980 (fun _ h9 => h9) (v := .ref (r)) rfl dX12_area_3 ?_
  refine pb_astore_n C dX12_area_6 rfl hl (by decide) rfl fun ls hl => ?_
  have hl : lv_has ls 6 [(2, .ref (r)), (1, .int (iZ (0))), (0, .ref (c))] := hl
  refine pb_aload_n C dX12_area_7 rfl (lv_at hl 0 rfl) ?_
  refine pb_alen C (t := 0) (by decide) hA dX12_area_8 ?_
  refine pb_istore_n C dX12_area_9 rfl hl (by decide) rfl fun ls hl => ?_
  have hl : lv_has ls 6 [(3, .int (iZ (((24 : Nat) : Int)))), (2, .ref (r)), (1, .int (iZ (0))), (0, .ref (c))] := hl
  refine pb_ic C dX12_area_10 ?_
  refine pb_istore C dX12_area_11 hl (by decide) rfl fun ls hl => ?_
  have hl : lv_has ls 6 [(4, .int (iZ (0))), (3, .int (iZ (((24 : Nat) : Int)))), (2, .ref (r)), (1, .int (iZ (0))), (0, .ref (c))] := hl
  exact pb_V.mono (by omega) (by omega) (L13 _ 0 0 rfl (by omega) rfl ls (lv_sub hl [3, 2, 1, 0] rfl))

set_option maxHeartbeats 1000000 in
theorem met_X12_perimeter {w : pb_W} (l : Launch) {H : Heap} (c : Nat) (P : Nat → Prop) (g : Nat → Nat) (hQ : Cq w H P c g) : pb_M w l yX12_perimeter cX12_perimeter 3 (some .int) 2 (0) (0) [.ref (c)] H (pb_qx (.int (iZ ((peB g 25 : Nat) : Int))) H) := by
  refine pb_of (by decide +kernel) (Nat.le_of_ble_eq_true rfl) ?_
  intro p_ e_ s_ m_ ar_ bl_ me_ co_ ls C hh hG hl
  have hl : lv_has ls 3 [(0, .ref (c))] := hl
  obtain ⟨r, hPc, hPr, hO, hA, hok⟩ := id hQ
  have L4 : ∀ (n_ : Nat) (k t9 : Nat), 25 - k = n_ → (k ≤ 25) → (t9 = peB g k) → ∀ (ls : Array Slot), lv_has ls 3 [(0, .ref (c)), (1, .int (iZ (((t9 : Nat) : Int)))), (2, .int (iZ (((k : Nat) : Int))))] → pb_V w.2.2.2 p_ l e_ (pb_rm 2 (0) (0)) s_ m_ ar_ bl_ me_ co_ H (0) (0) (pb_E w bl_ ar_ s_ (0) (0) (pb_qx (.int (iZ ((peB g 25 : Nat) : Int))) H)) (F0 m_ 4 ls []) := by
    intro n_
    induction n_ using Nat.strongRecOn with
    | _ n_ ih4 =>
    intro k t9 hm_ hk ht ls hl
    refine pb_iload_n C dX12_perimeter_4 rfl (lv_at hl 2 rfl) ?_
    refine pb_bip C dX12_perimeter_5 (by decide) ?_
    refine pb_icmp_gt C dX12_perimeter_7 (x := ((k : Nat) : Int)) (y := 24) (tgt := 54) (by decide) (by omega) (by omega) (fun c7_ => ?_) (fun c7_ => ?_)
    · refine pb_iload_n C dX12_perimeter_54 rfl (lv_at hl 1 rfl) ?_
      exact pb_iret C dX12_perimeter_55 (⟨by rw [ht, show k = 25 from by omega], rfl⟩)
    · have hga := grI_lt hok ((k : Nat) : Int)
      have hgb := grI_lt hok (((k : Nat) : Int) - 1)
      have hgs := shl25 hga
      refine pb_iload_n C dX12_perimeter_10 rfl (lv_at hl 1 rfl) ?_
      refine pb_aload_n C dX12_perimeter_11 rfl (lv_at hl 0 rfl) ?_
      refine pb_iload_n C dX12_perimeter_12 rfl (lv_at hl 2 rfl) ?_
      refine pb_go_x (bc' := 0) (bs' := 0) (pb_runV (rest := [.int (iZ (((t9 : Nat) : Int)))]) C hG (met_X12_row l c P g hQ (((k : Nat) : Int)) (by omega)) hO (ci := 11) rfl (lw_V q1175 q1177 qs14 q82 q1178) ⟨rfl, hdX12_row⟩ rfl hl.1 rfl (Nat.le_of_ble_eq_true rfl) ⟨(Nat.le_of_ble_eq_true rfl), (Nat.le_of_ble_eq_true rfl)⟩ dX12_perimeter_13) (by omega) (by omega) ?_
      refine pb_aload_n C dX12_perimeter_16 rfl (lv_at hl 0 rfl) ?_
      refine pb_iload_n C dX12_perimeter_17 rfl (lv_at hl 2 rfl) ?_
      refine pb_ic C dX12_perimeter_18 ?_
      refine pb_isub C dX12_perimeter_19 ?_
      refine pb_go_x (bc' := 0) (bs' := 0) (pb_runV (rest := [.int (iZ ((((grI g (((k : Nat) : Int))) : Nat) : Int))), .int (iZ (((t9 : Nat) : Int)))]) C hG (met_X12_row l c P g hQ ((((k : Nat) : Int) - 1)) (by omega)) hO (ci := 11) rfl (lw_V q1175 q1177 qs14 q82 q1178) ⟨rfl, hdX12_row⟩ rfl hl.1 rfl (Nat.le_of_ble_eq_true rfl) ⟨(Nat.le_of_ble_eq_true rfl), (Nat.le_of_ble_eq_true rfl)⟩ dX12_perimeter_20) (by omega) (by omega) ?_
      refine pb_ixor C dX12_perimeter_23 (x := (grI g (((k : Nat) : Int)))) (y := (grI g ((((k : Nat) : Int) - 1)))) ?_
      refine pb_go_x (bc' := 0) (bs' := 0) (pb_runS (rest := [.int (iZ (((t9 : Nat) : Int)))]) C hG (met_J19_bitCount l ((grI g (((k : Nat) : Int))) ^^^ (grI g ((((k : Nat) : Int) - 1)))) (xlt25 (by omega) (by omega))) (lw_S q1130 q1131 q84 q1132) hdJ19_bitCount rfl hl.1 rfl (Nat.le_of_ble_eq_true rfl) ⟨(Nat.le_of_ble_eq_true rfl), (Nat.le_of_ble_eq_true rfl)⟩ dX12_perimeter_24) (by omega) (by omega) ?_
      refine pb_iadd C dX12_perimeter_27 ?_
      refine pb_istore_n C dX12_perimeter_28 rfl hl (by decide) rfl fun ls hl => ?_
      have hl : lv_has ls 3 [(1, .int (iZ ((((t9 + (bcN ((grI g (((k : Nat) : Int))) ^^^ (grI g ((((k : Nat) : Int) - 1)))))) : Nat) : Int)))), (0, .ref (c)), (2, .int (iZ (((k : Nat) : Int))))] := hl
      refine pb_iload_n C dX12_perimeter_29 rfl (lv_at hl 0 rfl) ?_
      refine pb_aload_n C dX12_perimeter_30 rfl (lv_at hl 1 rfl) ?_
      refine pb_iload_n C dX12_perimeter_31 rfl (lv_at hl 2 rfl) ?_
      refine pb_go_x (bc' := 0) (bs' := 0) (pb_runV (rest := [.int (iZ ((((t9 + (bcN ((grI g (((k : Nat) : Int))) ^^^ (grI g ((((k : Nat) : Int) - 1)))))) : Nat) : Int)))]) C hG (met_X12_row l c P g hQ (((k : Nat) : Int)) (by omega)) hO (ci := 11) rfl (lw_V q1175 q1177 qs14 q82 q1178) ⟨rfl, hdX12_row⟩ rfl hl.1 rfl (Nat.le_of_ble_eq_true rfl) ⟨(Nat.le_of_ble_eq_true rfl), (Nat.le_of_ble_eq_true rfl)⟩ dX12_perimeter_32) (by omega) (by omega) ?_
      refine pb_aload_n C dX12_perimeter_35 rfl (lv_at hl 1 rfl) ?_
      refine pb_iload_n C dX12_perimeter_36 rfl (lv_at hl 2 rfl) ?_
      refine pb_go_x (bc' := 0) (bs' := 0) (pb_runV (rest := [.int (iZ ((((grI g (((k : Nat) : Int))) : Nat) : Int))), .int (iZ ((((t9 + (bcN ((grI g (((k : Nat) : Int))) ^^^ (grI g ((((k : Nat) : Int) - 1)))))) : Nat) : Int)))]) C hG (met_X12_row l c P g hQ (((k : Nat) : Int)) (by omega)) hO (ci := 11) rfl (lw_V q1175 q1177 qs14 q82 q1178) ⟨rfl, hdX12_row⟩ rfl hl.1 rfl (Nat.le_of_ble_eq_true rfl) ⟨(Nat.le_of_ble_eq_true rfl), (Nat.le_of_ble_eq_true rfl)⟩ dX12_perimeter_37) (by omega) (by omega) ?_
      refine pb_ic C dX12_perimeter_40 ?_
      refine pb_ishl C dX12_perimeter_41 (x := (grI g (((k : Nat) : Int)))) (y := 1) (by omega) ?_
      refine pb_ixor C dX12_perimeter_42 (x := (grI g (((k : Nat) : Int)))) (y := ((grI g (((k : Nat) : Int))) <<< 1)) ?_
      refine pb_go_x (bc' := 0) (bs' := 0) (pb_runS (rest := [.int (iZ ((((t9 + (bcN ((grI g (((k : Nat) : Int))) ^^^ (grI g ((((k : Nat) : Int) - 1)))))) : Nat) : Int)))]) C hG (met_J19_bitCount l ((grI g (((k : Nat) : Int))) ^^^ ((grI g (((k : Nat) : Int))) <<< 1)) (xlt25 (by omega) (by omega))) (lw_S q1130 q1131 q84 q1132) hdJ19_bitCount rfl hl.1 rfl (Nat.le_of_ble_eq_true rfl) ⟨(Nat.le_of_ble_eq_true rfl), (Nat.le_of_ble_eq_true rfl)⟩ dX12_perimeter_43) (by omega) (by omega) ?_
      refine pb_iadd C dX12_perimeter_46 ?_
      refine pb_istore_n C dX12_perimeter_47 rfl hl (by decide) rfl fun ls hl => ?_
      have hl : lv_has ls 3 [(1, .int (iZ (((((t9 + (bcN ((grI g (((k : Nat) : Int))) ^^^ (grI g ((((k : Nat) : Int) - 1)))))) + (bcN ((grI g (((k : Nat) : Int))) ^^^ ((grI g (((k : Nat) : Int))) <<< 1)))) : Nat) : Int)))), (0, .ref (c)), (2, .int (iZ (((k : Nat) : Int))))] := hl
      refine pb_iinc C dX12_perimeter_48 hl (j := 2) (x := (((k : Nat) : Int))) rfl (by decide) rfl fun ls hl => ?_
      have hl : lv_has ls 3 [(2, .int (iZ ((((k + 1) : Nat) : Int)))), (1, .int (iZ (((((t9 + (bcN ((grI g (((k : Nat) : Int))) ^^^ (grI g ((((k : Nat) : Int) - 1)))))) + (bcN ((grI g (((k : Nat) : Int))) ^^^ ((grI g (((k : Nat) : Int))) <<< 1)))) : Nat) : Int)))), (0, .ref (c))] := hl
      refine pb_goto C dX12_perimeter_51 (tgt := 4) (by decide) ?_
      exact pb_V.mono (by omega) (by omega) (ih4 _ (by omega) (k + 1) ((t9 + (bcN ((grI g (((k : Nat) : Int))) ^^^ (grI g ((((k : Nat) : Int) - 1)))))) + (bcN ((grI g (((k : Nat) : Int))) ^^^ ((grI g (((k : Nat) : Int))) <<< 1)))) rfl (by omega) (by rw [peB, sm, ← peB, ← ht]; omega) ls (lv_sub hl [2, 1, 0] rfl))
  refine pb_ic C dX12_perimeter_0 ?_
  refine pb_istore_n C dX12_perimeter_1 rfl hl (by decide) rfl fun ls hl => ?_
  have hl : lv_has ls 3 [(1, .int (iZ (0))), (0, .ref (c))] := hl
  refine pb_ic C dX12_perimeter_2 ?_
  refine pb_istore_n C dX12_perimeter_3 rfl hl (by decide) rfl fun ls hl => ?_
  have hl : lv_has ls 3 [(2, .int (iZ (0))), (1, .int (iZ (0))), (0, .ref (c))] := hl
  exact pb_V.mono (by omega) (by omega) (L4 _ 0 0 rfl (by omega) rfl ls (lv_sub hl [2, 1, 0] rfl))

set_option maxHeartbeats 1000000 in
theorem met_X12_at {w : pb_W} (l : Launch) {H0 : Heap} (x y : Nat) (hx : x < 24) (hy : y < 24) : pb_M w l yX12_at cX12_at 3 (some (.object "PolygonBoard$Cells")) 2 (2) (25) [.int (iZ (((x : Nat) : Int))), .int (iZ (((y : Nat) : Int)))] H0 (pb_qr (fun c H1 => Cb w H1 H0.size c (H0.size + 1) (va_up (fun _ => 0) y (1 <<< x)) ∧ pb_F (fun q => q < H0.size) H0 H1)) := by
  refine pb_of (by decide +kernel) (Nat.le_of_ble_eq_true rfl) ?_
  intro p_ e_ s_ m_ ar_ bl_ me_ co_ ls C hh hG hl
  have hl : lv_has ls 3 [(0, .int (iZ (((x : Nat) : Int)))), (1, .int (iZ (((y : Nat) : Int))))] := hl
  have hzs := hG.1
  have hFF : pb_F (fun q => q < H0.size) H0 H0 := pb_F.rf
  refine pb_newE C in_X12 tyX12 tyX12_ok (ci := 11) rfl q974 q975 q82 (fs := [.null]) (by decide) (bc' := 1) (bs' := 24) (by omega) (by omega) dX12_at_0 fun a1_ H1_ ha_ hn_ hN1_ => ?_
  have hs1_ : H1_.size = H0.size + 1 := hn_.1
  have hG := hG.kept (hn_.f.mono (fun _ _ _ => trivial))
  have hFF := hFF.tr (hn_.f.mono (fun _ _ _ => trivial))
  obtain rfl : a1_ = H0.size := by omega
  skip
  have hN := hN1_
  refine pb_dup C dX12_at_3 rfl ?_
  have hz9 := hFF.1
  refine pb_go_v (bc' := 0) (bs' := 0) (pb_runI (rest := [.ref (H0.size)]) C hG (met_X12_init l H0.size H0.size (by omega) (by omega) hN) q976 q977 q82 q978 rfl hdX12_init rfl hl.1 rfl (Nat.le_of_ble_eq_true rfl) ⟨(Nat.le_of_ble_eq_true rfl), (Nat.le_of_ble_eq_true rfl)⟩ dX12_at_4) (by omega) (by omega) (fun H_ hp_ => ?_)
  obtain ⟨hC, hF1⟩ := hp_
  have hG := hG.kept (hF1.mono (fun q hq9 (hq : q < w.2.2.2) => ⟨hq9, show q ≠ _ from by omega⟩))
  have hFF := hFF.tr (hF1.mono (fun q hq9 (hq : q < H0.size) => ⟨hq9, show q ≠ _ from by omega⟩))
  have hs9 : H1_.size = H0.size + 1 := hn_.1
  rw [hs9] at hC
  obtain ⟨hcz, hrz, hCO, hCA, hCok⟩ := id hC
  have hrlt := hCA.lt
  have hclt := hCO.lt
  refine pb_astore_n C dX12_at_7 rfl hl (by decide) rfl fun ls hl => ?_
  have hl : lv_has ls 3 [(2, .ref (H0.size)), (0, .int (iZ (((x : Nat) : Int)))), (1, .int (iZ (((y : Nat) : Int))))] := hl
  refine pb_aload_n C dX12_at_8 rfl (lv_at hl 0 rfl) ?_
  refine pb_get C in_X12 hCO.r (ci := 11) rfl 0 (by decide) q980 (fun _ h9 => h9) (v := .ref ((H0.size + 1))) rfl dX12_at_9 ?_
  refine pb_iload_n C dX12_at_12 rfl (lv_at hl 2 rfl) ?_
  refine pb_ic C dX12_at_13 ?_
  refine pb_iload_n C dX12_at_14 rfl (lv_at hl 1 rfl) ?_
  refine pb_ishl C dX12_at_15 (x := 1) (y := x) (by omega) ?_
  refine pb_iast C hCA (i := ((y : Nat) : Int)) (by omega) (by omega) dX12_at_16 fun H2_ hu_ hCA => ?_
  rw [pb_upN, Int.toNat_natCast] at hCA
  have hG := hG.kept (hu_.z (by omega))
  have hs_H2_ := hu_.1
  have hCO := hCO.kept (hu_.2 _ (by omega))
  have hFF := hFF.tr (hu_.f.mono (fun q _ (hq : q < H0.size) => show q ≠ _ from by omega))
  refine pb_aload_n C dX12_at_17 rfl (lv_at hl 0 rfl) ?_
  exact pb_aret C (Or.inl ⟨_, rfl⟩) dX12_at_18 (Or.inr ⟨_, rfl⟩) (⟨_, rfl, ⟨Nat.le_refl _, by omega, hCO, hCA, gok_up gok_0 hy (by rw [Nat.shiftLeft_eq, Nat.one_mul]; exact Nat.pow_lt_pow_right (by decide) hx)⟩, hFF⟩)

