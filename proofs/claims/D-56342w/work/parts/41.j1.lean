set_option maxRecDepth 100000
set_option maxHeartbeats 1000000 in
theorem met_J0_init {w : pb_W} (l : Launch) {H0 : Heap} (a : Nat) : pb_M w l yJ0_init cJ0_init 1 none 1 (0) (0) [.ref (a)] H0 (pb_qv (fun H1 => H1 = H0)) := by
  refine pb_of (by decide +kernel) (Nat.le_of_ble_eq_true rfl) ?_
  intro p_ e_ s_ m_ ar_ bl_ me_ co_ ls C hh hG hl
  have hl : lv_has ls 1 [(0, .ref (a))] := hl
  refine pb_aload_n C dJ0_init_0 rfl (lv_at hl 0 rfl) ?_
  refine pb_objInit C q112 q99 q100 hl.1 ⟨(Nat.le_of_ble_eq_true rfl), (Nat.le_of_ble_eq_true rfl)⟩ dJ0_init_1 ?_
  exact pb_vret C dJ0_init_4 (⟨rfl, rfl⟩)

set_option maxHeartbeats 1000000 in
theorem met_J1_init {w : pb_W} (l : Launch) {H0 : Heap} (a : Nat) (v0 v1 v2 : Value) (hz : w.2.2.2 ≤ a) (hO : pb_O w H0 a 15 [v0, v1, v2]) : pb_M w l yJ1_init cJ1_init 1 none 2 (0) (0) [.ref (a)] H0 (pb_qv (fun H1 => pb_O w H1 a 15 [.int (iZ 0), v1, v2] ∧ pb_F (fun q => q ≠ a) H0 H1)) := by
  refine pb_of (by decide +kernel) (Nat.le_of_ble_eq_true rfl) ?_
  intro p_ e_ s_ m_ ar_ bl_ me_ co_ ls C hh hG hl
  have hl : lv_has ls 1 [(0, .ref (a))] := hl
  refine pb_aload_n C dJ1_init_0 rfl (lv_at hl 0 rfl) ?_
  refine pb_go_v (bc' := 0) (bs' := 0) (pb_runI (rest := []) C hG (met_J0_init l a) q109 q110 q52 q111 rfl hdJ0_init rfl hl.1 rfl (Nat.le_of_ble_eq_true rfl) ⟨(Nat.le_of_ble_eq_true rfl), (Nat.le_of_ble_eq_true rfl)⟩ dJ1_init_1) (by omega) (by omega) (fun H_ hp_ => ?_)
  obtain rfl := hp_
  refine pb_aload_n C dJ1_init_4 rfl (lv_at hl 0 rfl) ?_
  refine pb_ic C dJ1_init_5 ?_
  refine pb_put C in_J2 tyJ2 tyJ2_ok nmJ2 hO (ci := 15) rfl 0 (by decide) q119 (fun _ h9 => h9) rfl (v := .int (iZ (0))) rfl rfl (Nat.le_of_ble_eq_true rfl) (by omega) dJ1_init_6 fun H1_ hu_ hO => ?_
  have hO : pb_O w H1_ (a) 15 [.int (iZ (0)), v1, v2] := hO
  have hG := hG.kept (hu_.z (by omega))
  have hs_H1_ := hu_.1
  exact pb_vret C dJ1_init_9 (⟨rfl, hO, hu_.f⟩)

set_option maxHeartbeats 1000000 in
theorem met_J2_init {w : pb_W} (l : Launch) {H0 : Heap} (z a : Nat) (hz : w.2.2.2 ≤ a) (hza : z ≤ a) (hO : pb_O w H0 a 15 [.int (iZ 0), .null, .int (iZ 0)]) : pb_M w l yJ2_init cJ2_init 1 none 3 (0) (0) [.ref (a)] H0 (pb_qv (fun H1 => Lb w H1 z a (w.2.2.1 0) [] ∧ pb_F (fun q => q ≠ a) H0 H1)) := by
  refine pb_of (by decide +kernel) (Nat.le_of_ble_eq_true rfl) ?_
  intro p_ e_ s_ m_ ar_ bl_ me_ co_ ls C hh hG hl
  have hl : lv_has ls 1 [(0, .ref (a))] := hl
  refine pb_aload_n C dJ2_init_0 rfl (lv_at hl 0 rfl) ?_
  refine pb_go_v (bc' := 0) (bs' := 0) (pb_runI (rest := []) C hG (met_J1_init l a _ _ _ hz hO) q106 q107 q53 q108 rfl hdJ1_init rfl hl.1 rfl (Nat.le_of_ble_eq_true rfl) ⟨(Nat.le_of_ble_eq_true rfl), (Nat.le_of_ble_eq_true rfl)⟩ dJ2_init_1) (by omega) (by omega) (fun H_ hp_ => ?_)
  obtain ⟨hO, hF1⟩ := hp_
  have hG := hG.kept (hF1.mono (fun q _ (hq : q < w.2.2.2) => show q ≠ _ from by omega))
  refine pb_aload_n C dJ2_init_4 rfl (lv_at hl 0 rfl) ?_
  refine pb_gets C (n := "DEFAULTCAPACITY_EMPTY_ELEMENTDATA") (v := .ref (w.2.2.1 0)) hG.2.1 q113 (fun _ h9 => h9) dJ2_init_5 ?_
  refine pb_put C in_J2 tyJ2 tyJ2_ok nmJ2 hO (ci := 15) rfl 1 (by decide) q115 (fun _ h9 => h9) rfl (v := .ref (w.2.2.1 0)) rfl rfl (Nat.le_of_ble_eq_true rfl) (by omega) dJ2_init_8 fun H1_ hu_ hO => ?_
  have hO : pb_O w H1_ (a) 15 [.int (iZ (0)), .ref (w.2.2.1 0), .int (iZ (0))] := hO
  have hG := hG.kept (hu_.z (by omega))
  have hs_H1_ := hu_.1
  exact pb_vret C dJ2_init_11 (⟨rfl, ⟨hza, hO, Or.inl ⟨rfl, rfl⟩⟩, hF1.tr hu_.f⟩)

set_option maxHeartbeats 1000000 in
theorem met_J2_size {w : pb_W} (l : Launch) {H : Heap} (a : Nat) (P : Nat → Prop) (V : List Nat) (hL : Lr w H P a V) : pb_M w l yJ2_size cJ2_size 1 (some .int) 0 (0) (0) [.ref (a)] H (pb_qx (.int (iZ ((V.length : Nat) : Int))) H) := by
  refine pb_of (by decide +kernel) (Nat.le_of_ble_eq_true rfl) ?_
  intro p_ e_ s_ m_ ar_ bl_ me_ co_ ls C hh hG hl
  have hl : lv_has ls 1 [(0, .ref (a))] := hl
  obtain ⟨e, hPa, hO, hn, hV⟩ := id hL
  refine pb_aload_n C dJ2_size_0 rfl (lv_at hl 0 rfl) ?_
  refine pb_get C in_J2 hO (ci := 15) rfl 2 (by decide) q118 (fun _ h9 => h9) (v := .int (iZ (((V.length : Nat) : Int)))) rfl dJ2_size_1 ?_
  exact pb_iret C dJ2_size_4 (⟨rfl, rfl⟩)

set_option maxHeartbeats 1000000 in
theorem met_J2_isEmpty {w : pb_W} (l : Launch) {H : Heap} (a : Nat) (P : Nat → Prop) (V : List Nat) (hL : Lr w H P a V) : pb_M w l yJ2_isEmpty cJ2_isEmpty 1 (some .boolean) 0 (0) (0) [.ref (a)] H (pb_qx (.int (iZ (bI (decide (V.length = 0))))) H) := by
  refine pb_of (by decide +kernel) (Nat.le_of_ble_eq_true rfl) ?_
  intro p_ e_ s_ m_ ar_ bl_ me_ co_ ls C hh hG hl
  have hl : lv_has ls 1 [(0, .ref (a))] := hl
  obtain ⟨e, hPa, hO, hn, hV⟩ := id hL
  refine pb_aload_n C dJ2_isEmpty_0 rfl (lv_at hl 0 rfl) ?_
  refine pb_get C in_J2 hO (ci := 15) rfl 2 (by decide) q118 (fun _ h9 => h9) (v := .int (iZ (((V.length : Nat) : Int)))) rfl dJ2_isEmpty_1 ?_
  refine pb_if_ne C dJ2_isEmpty_4 (x := ((V.length : Nat) : Int)) (tgt := 11) (by decide) (by omega) (fun c4_ => ?_) (fun c4_ => ?_)
  · refine pb_ic C dJ2_isEmpty_11 ?_
    exact pb_zret C dJ2_isEmpty_12 (by decide +kernel) (⟨by rw [bI_f (decide_eq_false (by omega))], rfl⟩)
  · refine pb_ic C dJ2_isEmpty_7 ?_
    refine pb_goto C dJ2_isEmpty_8 (tgt := 12) (by decide) ?_
    exact pb_zret C dJ2_isEmpty_12 (by decide +kernel) (⟨by rw [bI_t (decide_eq_true (by omega))], rfl⟩)

set_option maxHeartbeats 1000000 in
theorem met_J13_checkIndex {w : pb_W} (l : Launch) {H : Heap} (i n : Nat) (hi : i < n) (hn : n ≤ 2000) : pb_M w l yJ13_checkIndex cJ13_checkIndex 3 (some .int) 0 (0) (0) [.int (iZ (((i : Nat) : Int))), .int (iZ (((n : Nat) : Int))), .null] H (pb_qx (.int (iZ ((i : Nat) : Int))) H) := by
  refine pb_of (by decide +kernel) (Nat.le_of_ble_eq_true rfl) ?_
  intro p_ e_ s_ m_ ar_ bl_ me_ co_ ls C hh hG hl
  have hl : lv_has ls 3 [(0, .int (iZ (((i : Nat) : Int)))), (1, .int (iZ (((n : Nat) : Int)))), (2, .null)] := hl
  refine pb_iload_n C dJ13_checkIndex_0 rfl (lv_at hl 0 rfl) ?_
  refine pb_if_lt C dJ13_checkIndex_1 (x := ((i : Nat) : Int)) (tgt := 9) (by decide) (by omega) (fun c1_ => ?_) (fun c1_ => ?_)
  · omega
  · refine pb_iload_n C dJ13_checkIndex_4 rfl (lv_at hl 0 rfl) ?_
    refine pb_iload_n C dJ13_checkIndex_5 rfl (lv_at hl 1 rfl) ?_
    refine pb_icmp_lt C dJ13_checkIndex_6 (x := ((i : Nat) : Int)) (y := ((n : Nat) : Int)) (tgt := 16) (by decide) (by omega) (by omega) (fun c6_ => ?_) (fun c6_ => ?_)
    · refine pb_iload_n C dJ13_checkIndex_16 rfl (lv_at hl 0 rfl) ?_
      exact pb_iret C dJ13_checkIndex_17 (⟨rfl, rfl⟩)
    · omega

set_option maxHeartbeats 1000000 in
theorem met_J12_checkIndex {w : pb_W} (l : Launch) {H : Heap} (i n : Nat) (hi : i < n) (hn : n ≤ 2000) : pb_M w l yJ12_checkIndex cJ12_checkIndex 2 (some .int) 1 (0) (0) [.int (iZ (((i : Nat) : Int))), .int (iZ (((n : Nat) : Int)))] H (pb_qx (.int (iZ ((i : Nat) : Int))) H) := by
  refine pb_of (by decide +kernel) (Nat.le_of_ble_eq_true rfl) ?_
  intro p_ e_ s_ m_ ar_ bl_ me_ co_ ls C hh hG hl
  have hl : lv_has ls 2 [(0, .int (iZ (((i : Nat) : Int)))), (1, .int (iZ (((n : Nat) : Int))))] := hl
  refine pb_iload_n C dJ12_checkIndex_0 rfl (lv_at hl 0 rfl) ?_
  refine pb_iload_n C dJ12_checkIndex_1 rfl (lv_at hl 1 rfl) ?_
  refine pb_anull C dJ12_checkIndex_2 ?_
  refine pb_go_x (bc' := 0) (bs' := 0) (pb_runS (rest := []) C hG (met_J13_checkIndex l i n hi hn) (lw_S q368 q369 q68 q370) hdJ13_checkIndex rfl hl.1 rfl (Nat.le_of_ble_eq_true rfl) ⟨(Nat.le_of_ble_eq_true rfl), (Nat.le_of_ble_eq_true rfl)⟩ dJ12_checkIndex_3) (by omega) (by omega) ?_
  exact pb_iret C dJ12_checkIndex_6 (⟨rfl, rfl⟩)

set_option maxHeartbeats 1000000 in
theorem met_J2_elementData {w : pb_W} (l : Launch) {H : Heap} (a : Nat) (P : Nat → Prop) (V : List Nat) (hL : Lr w H P a V) (i : Nat) (hi : i < V.length) : pb_M w l yJ2_elementData cJ2_elementData 2 (some (.object "java/lang/Object")) 0 (0) (0) [.ref (a), .int (iZ (((i : Nat) : Int)))] H (pb_qx (.ref (nV V i)) H) := by
  refine pb_of (by decide +kernel) (Nat.le_of_ble_eq_true rfl) ?_
  intro p_ e_ s_ m_ ar_ bl_ me_ co_ ls C hh hG hl
  have hl : lv_has ls 2 [(0, .ref (a)), (1, .int (iZ (((i : Nat) : Int))))] := hl
  obtain ⟨e, hPa, hO, hn, hV⟩ := id hL
  rcases hV with hV | ⟨hPe, m, g, hA, hm, hm2, hg⟩
  · rw [hV] at hi; exact absurd hi (Nat.not_lt_zero _)
  have hn9 := hn
  refine pb_aload_n C dJ2_elementData_0 rfl (lv_at hl 0 rfl) ?_
  refine pb_get C in_J2 hO (ci := 15) rfl 1 (by decide) q115 (fun _ h9 => h9) (v := .ref (e)) rfl dJ2_elementData_1 ?_
  refine pb_iload_n C dJ2_elementData_4 rfl (lv_at hl 1 rfl) ?_
  refine pb_aald C (t := 4) (by decide) hA (i := ((i : Nat) : Int)) (v := .ref ((nV V i))) (by omega) (hg i hi) dJ2_elementData_5 ?_
  exact pb_aret C (Or.inl ⟨_, rfl⟩) dJ2_elementData_6 (Or.inr ⟨_, rfl⟩) (⟨rfl, rfl⟩)

set_option maxHeartbeats 1000000 in
theorem met_J2_get {w : pb_W} (l : Launch) {H : Heap} (a : Nat) (P : Nat → Prop) (V : List Nat) (hL : Lr w H P a V) (i : Nat) (hi : i < V.length) : pb_M w l yJ2_get cJ2_get 2 (some (.object "java/lang/Object")) 2 (0) (0) [.ref (a), .int (iZ (((i : Nat) : Int)))] H (pb_qx (.ref (nV V i)) H) := by
  refine pb_of (by decide +kernel) (Nat.le_of_ble_eq_true rfl) ?_
  intro p_ e_ s_ m_ ar_ bl_ me_ co_ ls C hh hG hl
  have hl : lv_has ls 2 [(0, .ref (a)), (1, .int (iZ (((i : Nat) : Int))))] := hl
  obtain ⟨e, hPa, hO, hn, hV⟩ := id hL
  refine pb_iload_n C dJ2_get_0 rfl (lv_at hl 1 rfl) ?_
  refine pb_aload_n C dJ2_get_1 rfl (lv_at hl 0 rfl) ?_
  refine pb_get C in_J2 hO (ci := 15) rfl 2 (by decide) q118 (fun _ h9 => h9) (v := .int (iZ (((V.length : Nat) : Int)))) rfl dJ2_get_2 ?_
  refine pb_go_x (bc' := 0) (bs' := 0) (pb_runS (rest := []) C hG (met_J12_checkIndex l i V.length hi (by omega)) (lw_S q365 q366 q67 q367) hdJ12_checkIndex rfl hl.1 rfl (Nat.le_of_ble_eq_true rfl) ⟨(Nat.le_of_ble_eq_true rfl), (Nat.le_of_ble_eq_true rfl)⟩ dJ2_get_5) (by omega) (by omega) ?_
  refine pb_pop C dJ2_get_8 rfl ?_
  refine pb_aload_n C dJ2_get_9 rfl (lv_at hl 0 rfl) ?_
  refine pb_iload_n C dJ2_get_10 rfl (lv_at hl 1 rfl) ?_
  refine pb_go_x (bc' := 0) (bs' := 0) (pb_runV (rest := []) C hG (met_J2_elementData l a P V hL i hi) hO (ci := 15) rfl (lw_V q371 q372 q373 q54 q374) ⟨rfl, hdJ2_elementData⟩ rfl hl.1 rfl (Nat.le_of_ble_eq_true rfl) ⟨(Nat.le_of_ble_eq_true rfl), (Nat.le_of_ble_eq_true rfl)⟩ dJ2_get_11) (by omega) (by omega) ?_
  exact pb_aret C (Or.inl ⟨_, rfl⟩) dJ2_get_14 (Or.inr ⟨_, rfl⟩) (⟨rfl, rfl⟩)

set_option maxHeartbeats 1000000 in
theorem met_J15_init {w : pb_W} (l : Launch) {H0 : Heap} (a i : Nat) (P : Nat → Prop) (V : List Nat) (hL : Lr w H0 P a V) (hz : w.2.2.2 ≤ i) (hai : a ≠ i) (hO1 : pb_O w H0 i 16 [.int (iZ 0), .int (iZ 0), .int (iZ 0), .null]) : pb_M w l yJ15_init cJ15_init 2 none 1 (0) (0) [.ref (i), .ref (a)] H0 (pb_qv (fun H1 => It w H1 i a 0 V.length ∧ pb_F (fun q => q ≠ i) H0 H1)) := by
  refine pb_of (by decide +kernel) (Nat.le_of_ble_eq_true rfl) ?_
  intro p_ e_ s_ m_ ar_ bl_ me_ co_ ls C hh hG hl
  have hl : lv_has ls 2 [(0, .ref (i)), (1, .ref (a))] := hl
  obtain ⟨e, hPa, hO, hn, hV⟩ := id hL
  have hFF : pb_F (fun q => q ≠ i) H0 H0 := pb_F.rf
  refine pb_aload_n C dJ15_init_0 rfl (lv_at hl 0 rfl) ?_
  refine pb_aload_n C dJ15_init_1 rfl (lv_at hl 1 rfl) ?_
  refine pb_putF C in_J15 tyJ15 tyJ15_ok nmJ15 hO1 (ci := 16) rfl 3 (by decide) q537 (fun _ h9 => h9) rfl rfl rfl (v := .ref (a)) rfl rfl (Nat.le_of_ble_eq_true rfl) (by omega) dJ15_init_2 fun H1_ hu_ hO1 => ?_
  have hO1 : pb_O w H1_ (i) 16 [.int (iZ (0)), .int (iZ (0)), .int (iZ (0)), .ref (a)] := hO1
  have hG := hG.kept (hu_.z (by omega))
  have hs_H1_ := hu_.1
  have hO := hO.kept (hu_.2 _ (by omega))
  have hFF := hFF.tr (hu_.f)
  refine pb_aload_n C dJ15_init_5 rfl (lv_at hl 0 rfl) ?_
  refine pb_objInit C q533 q99 q100 hl.1 ⟨(Nat.le_of_ble_eq_true rfl), (Nat.le_of_ble_eq_true rfl)⟩ dJ15_init_6 ?_
  refine pb_aload_n C dJ15_init_9 rfl (lv_at hl 0 rfl) ?_
  refine pb_ic C dJ15_init_10 ?_
  refine pb_put C in_J15 tyJ15 tyJ15_ok nmJ15 hO1 (ci := 16) rfl 1 (by decide) q535 (fun _ h9 => h9) rfl (v := .int (iZ ((-1)))) rfl rfl (Nat.le_of_ble_eq_true rfl) (by omega) dJ15_init_11 fun H2_ hu_ hO1 => ?_
  have hO1 : pb_O w H2_ (i) 16 [.int (iZ (0)), .int (iZ ((-1))), .int (iZ (0)), .ref (a)] := hO1
  have hG := hG.kept (hu_.z (by omega))
  have hs_H2_ := hu_.1
  have hO := hO.kept (hu_.2 _ (by omega))
  have hFF := hFF.tr (hu_.f)
  refine pb_aload_n C dJ15_init_14 rfl (lv_at hl 0 rfl) ?_
  refine pb_aload_n C dJ15_init_15 rfl (lv_at hl 0 rfl) ?_
  refine pb_get C in_J15 hO1.r (ci := 16) rfl 3 (by decide) q537 (fun _ h9 => h9) (v := .ref (a)) rfl dJ15_init_16 ?_
  refine pb_get C in_J2 hO (ci := 15) rfl 0 (by decide) q120 (fun x h9 => u_same (C.2.2.2.2.1 _ q121) x h9) (v := .int (iZ (((V.length : Nat) : Int)))) rfl dJ15_init_19 ?_
  refine pb_put C in_J15 tyJ15 tyJ15_ok nmJ15 hO1 (ci := 16) rfl 2 (by decide) q536 (fun _ h9 => h9) rfl (v := .int (iZ (((V.length : Nat) : Int)))) rfl rfl (Nat.le_of_ble_eq_true rfl) (by omega) dJ15_init_22 fun H3_ hu_ hO1 => ?_
  have hO1 : pb_O w H3_ (i) 16 [.int (iZ (0)), .int (iZ ((-1))), .int (iZ (((V.length : Nat) : Int))), .ref (a)] := hO1
  have hG := hG.kept (hu_.z (by omega))
  have hs_H3_ := hu_.1
  have hO := hO.kept (hu_.2 _ (by omega))
  have hFF := hFF.tr (hu_.f)
  exact pb_vret C dJ15_init_25 (⟨rfl, hO1, hFF⟩)

set_option maxHeartbeats 1000000 in
theorem met_J2_iterator {w : pb_W} (l : Launch) {H0 : Heap} (a : Nat) (P : Nat → Prop) (V : List Nat) (hL : Lr w H0 P a V) : pb_M w l yJ2_iterator cJ2_iterator 1 (some (.object "java/util/Iterator")) 2 (1) (4) [.ref (a)] H0 (pb_qr (fun i H1 => i = H0.size ∧ It w H1 i a 0 V.length ∧ pb_F (fun _ => True) H0 H1)) := by
  refine pb_of (by decide +kernel) (Nat.le_of_ble_eq_true rfl) ?_
  intro p_ e_ s_ m_ ar_ bl_ me_ co_ ls C hh hG hl
  have hl : lv_has ls 1 [(0, .ref (a))] := hl
  obtain ⟨e, hPa, hO, hn, hV⟩ := id hL
  have hlt := hO.lt
  have hz0 := hG.1
  refine pb_newE C in_J15 tyJ15 tyJ15_ok (ci := 16) rfl q528 q529 q76 (fs := [.int (iZ (0)), .int (iZ (0)), .int (iZ (0)), .null]) (by decide) (bc' := 0) (bs' := 0) (by omega) (by omega) dJ2_iterator_0 fun a1_ H1_ ha_ hn_ hN1_ => ?_
  have hs1_ : H1_.size = H0.size + 1 := hn_.1
  have hG := hG.kept (hn_.f.mono (fun _ _ _ => trivial))
  have hL := hL.below.kept (hn_.f.mono (fun _ _ _ => trivial))
  have hLo := hL.o
  obtain ⟨fsL_, hLo⟩ := hL.o
  obtain rfl : a1_ = H0.size := by omega
  skip
  have hO1 := hN1_
  refine pb_dup C dJ2_iterator_3 rfl ?_
  refine pb_aload_n C dJ2_iterator_4 rfl (lv_at hl 0 rfl) ?_
  refine pb_go_v (bc' := 0) (bs' := 0) (pb_runI (rest := [.ref (H0.size)]) C hG (met_J15_init l a H0.size _ V hL (by omega) (by omega) hO1) q530 q531 q76 q532 rfl hdJ15_init rfl hl.1 rfl (Nat.le_of_ble_eq_true rfl) ⟨(Nat.le_of_ble_eq_true rfl), (Nat.le_of_ble_eq_true rfl)⟩ dJ2_iterator_5) (by omega) (by omega) (fun H_ hp_ => ?_)
  obtain ⟨hI, hF1⟩ := hp_
  exact pb_aret C (Or.inl ⟨_, rfl⟩) dJ2_iterator_8 (Or.inr ⟨_, rfl⟩) (⟨_, rfl, rfl, hI, ⟨by have := hF1.1; omega, fun q hq _ => (hF1.2 q (by omega) (show q ≠ _ from by omega)).trans (hn_.2 q hq)⟩⟩)

set_option maxHeartbeats 1000000 in
theorem met_J15_hasNext {w : pb_W} (l : Launch) {H0 : Heap} (i a k : Nat) (P : Nat → Prop) (V : List Nat) (hI : It w H0 i a k V.length) (hL : Lr w H0 P a V) (hk : k ≤ V.length) : pb_M w l yJ15_hasNext cJ15_hasNext 1 (some .boolean) 0 (0) (0) [.ref (i)] H0 (pb_qx (.int (iZ (bI (decide (k < V.length))))) H0) := by
  refine pb_of (by decide +kernel) (Nat.le_of_ble_eq_true rfl) ?_
  intro p_ e_ s_ m_ ar_ bl_ me_ co_ ls C hh hG hl
  have hl : lv_has ls 1 [(0, .ref (i))] := hl
  obtain ⟨e, hPa, hO, hn, hV⟩ := id hL
  have hI : pb_O w H0 i 16 (iF a k V.length) := hI
  refine pb_aload_n C dJ15_hasNext_0 rfl (lv_at hl 0 rfl) ?_
  refine pb_get C in_J15 hI.r (ci := 16) rfl 0 (by decide) q534 (fun _ h9 => h9) (v := .int (iZ (((k : Nat) : Int)))) rfl dJ15_hasNext_1 ?_
  refine pb_aload_n C dJ15_hasNext_4 rfl (lv_at hl 0 rfl) ?_
  refine pb_get C in_J15 hI.r (ci := 16) rfl 3 (by decide) q537 (fun _ h9 => h9) (v := .ref (a)) rfl dJ15_hasNext_5 ?_
  refine pb_getN C in_J2 hO (ci := 15) rfl 2 (by decide) q117 (fun _ h9 => h9) (v := .int (iZ (((V.length : Nat) : Int)))) rfl dJ15_hasNext_8 ?_
  refine pb_icmp_eq C dJ15_hasNext_11 (x := ((k : Nat) : Int)) (y := ((V.length : Nat) : Int)) (tgt := 18) (by decide) (by omega) (by omega) (fun c11_ => ?_) (fun c11_ => ?_)
  · refine pb_ic C dJ15_hasNext_18 ?_
    exact pb_zret C dJ15_hasNext_19 (by decide +kernel) (⟨by rw [bI_f (decide_eq_false (by omega))], rfl⟩)
  · refine pb_ic C dJ15_hasNext_14 ?_
    refine pb_goto C dJ15_hasNext_15 (tgt := 19) (by decide) ?_
    exact pb_zret C dJ15_hasNext_19 (by decide +kernel) (⟨by rw [bI_t (decide_eq_true (by omega))], rfl⟩)

set_option maxHeartbeats 1000000 in
theorem met_J15_check {w : pb_W} (l : Launch) {H0 : Heap} (i a k : Nat) (P : Nat → Prop) (V : List Nat) (hI : It w H0 i a k V.length) (hL : Lr w H0 P a V) : pb_M w l yJ15_checkForComodification cJ15_checkForComodification 1 none 0 (0) (0) [.ref (i)] H0 (pb_qv (fun H1 => H1 = H0)) := by
  refine pb_of (by decide +kernel) (Nat.le_of_ble_eq_true rfl) ?_
  intro p_ e_ s_ m_ ar_ bl_ me_ co_ ls C hh hG hl
  have hl : lv_has ls 1 [(0, .ref (i))] := hl
  obtain ⟨e, hPa, hO, hn, hV⟩ := id hL
  have hI : pb_O w H0 i 16 (iF a k V.length) := hI
  refine pb_aload_n C dJ15_checkForComodification_0 rfl (lv_at hl 0 rfl) ?_
  refine pb_get C in_J15 hI.r (ci := 16) rfl 3 (by decide) q537 (fun _ h9 => h9) (v := .ref (a)) rfl dJ15_checkForComodification_1 ?_
  refine pb_get C in_J2 hO (ci := 15) rfl 0 (by decide) q120 (fun x h9 => u_same (C.2.2.2.2.1 _ q121) x h9) (v := .int (iZ (((V.length : Nat) : Int)))) rfl dJ15_checkForComodification_4 ?_
  refine pb_aload_n C dJ15_checkForComodification_7 rfl (lv_at hl 0 rfl) ?_
  refine pb_get C in_J15 hI.r (ci := 16) rfl 2 (by decide) q536 (fun _ h9 => h9) (v := .int (iZ (((V.length : Nat) : Int)))) rfl dJ15_checkForComodification_8 ?_
  refine pb_icmp_eq C dJ15_checkForComodification_11 (x := ((V.length : Nat) : Int)) (y := ((V.length : Nat) : Int)) (tgt := 22) (by decide) (by omega) (by omega) (fun c11_ => ?_) (fun c11_ => ?_)
  · exact pb_vret C dJ15_checkForComodification_22 (⟨rfl, rfl⟩)
  · exact absurd rfl c11_

set_option maxHeartbeats 1000000 in
theorem met_J15_next {w : pb_W} (l : Launch) {H0 : Heap} (i a k : Nat) (P : Nat → Prop) (V : List Nat) (hI : It w H0 i a k V.length) (hL : Lr w H0 P a V) (hz : w.2.2.2 ≤ i) (hPi : ¬ P i) (hk : k < V.length) : pb_M w l yJ15_next cJ15_next 3 (some (.object "java/lang/Object")) 1 (0) (0) [.ref (i)] H0 (pb_qr (fun v H1 => v = nV V k ∧ It w H1 i a (k + 1) V.length ∧ pb_F (fun q => q ≠ i) H0 H1)) := by
  refine pb_of (by decide +kernel) (Nat.le_of_ble_eq_true rfl) ?_
  intro p_ e_ s_ m_ ar_ bl_ me_ co_ ls C hh hG hl
  have hl : lv_has ls 3 [(0, .ref (i))] := hl
  obtain ⟨e, hPa, hO, hn, hV⟩ := id hL
  rcases hV with hV | ⟨hPe, m, g, hA, hm, hm2, hg⟩
  · rw [hV] at hk; exact absurd hk (Nat.not_lt_zero _)
  have hI : pb_O w H0 i 16 (iF a k V.length) := hI
  have hai : a ≠ i := fun e9 => hPi (e9 ▸ hPa)
  have hei : e ≠ i := fun e9 => hPi (e9 ▸ hPe)
  have hFF : pb_F (fun q => q ≠ i) H0 H0 := pb_F.rf
  refine pb_aload_n C dJ15_next_0 rfl (lv_at hl 0 rfl) ?_
  refine pb_go_v (bc' := 0) (bs' := 0) (pb_runV (rest := []) C hG (met_J15_check l i a k P V hI hL) hI.r (ci := 16) rfl (lw_V q566 q567 q568 q76 q569) ⟨rfl, hdJ15_checkForComodification⟩ rfl hl.1 rfl (Nat.le_of_ble_eq_true rfl) ⟨(Nat.le_of_ble_eq_true rfl), (Nat.le_of_ble_eq_true rfl)⟩ dJ15_next_1) (by omega) (by omega) (fun H_ hp_ => ?_)
  obtain rfl := hp_
  refine pb_aload_n C dJ15_next_4 rfl (lv_at hl 0 rfl) ?_
  refine pb_get C in_J15 hI.r (ci := 16) rfl 0 (by decide) q534 (fun _ h9 => h9) (v := .int (iZ (((k : Nat) : Int)))) rfl dJ15_next_5 ?_
  refine pb_istore_n C dJ15_next_8 rfl hl (by decide) rfl fun ls hl => ?_
  have hl : lv_has ls 3 [(1, .int (iZ (((k : Nat) : Int)))), (0, .ref (i))] := hl
  refine pb_iload_n C dJ15_next_9 rfl (lv_at hl 0 rfl) ?_
  refine pb_aload_n C dJ15_next_10 rfl (lv_at hl 1 rfl) ?_
  refine pb_get C in_J15 hI.r (ci := 16) rfl 3 (by decide) q537 (fun _ h9 => h9) (v := .ref (a)) rfl dJ15_next_11 ?_
  refine pb_getN C in_J2 hO (ci := 15) rfl 2 (by decide) q117 (fun _ h9 => h9) (v := .int (iZ (((V.length : Nat) : Int)))) rfl dJ15_next_14 ?_
  refine pb_icmp_lt C dJ15_next_17 (x := ((k : Nat) : Int)) (y := ((V.length : Nat) : Int)) (tgt := 28) (by decide) (by omega) (by omega) (fun c17_ => ?_) (fun c17_ => ?_)
  · refine pb_aload_n C dJ15_next_28 rfl (lv_at hl 1 rfl) ?_
    refine pb_get C in_J15 hI.r (ci := 16) rfl 3 (by decide) q537 (fun _ h9 => h9) (v := .ref (a)) rfl dJ15_next_29 ?_
    refine pb_get C in_J2 hO (ci := 15) rfl 1 (by decide) q116 (fun _ h9 => h9) (v := .ref (e)) rfl dJ15_next_32 ?_
    refine pb_astore_n C dJ15_next_35 rfl hl (by decide) rfl fun ls hl => ?_
    have hl : lv_has ls 3 [(2, .ref (e)), (1, .int (iZ (((k : Nat) : Int)))), (0, .ref (i))] := hl
    refine pb_iload_n C dJ15_next_36 rfl (lv_at hl 1 rfl) ?_
    refine pb_aload_n C dJ15_next_37 rfl (lv_at hl 0 rfl) ?_
    refine pb_alen C (t := 4) (by decide) hA dJ15_next_38 ?_
    refine pb_icmp_lt C dJ15_next_39 (x := ((k : Nat) : Int)) (y := ((m : Nat) : Int)) (tgt := 50) (by decide) (by omega) (by omega) (fun c39_ => ?_) (fun c39_ => ?_)
    · refine pb_aload_n C dJ15_next_50 rfl (lv_at hl 2 rfl) ?_
      refine pb_iload_n C dJ15_next_51 rfl (lv_at hl 1 rfl) ?_
      refine pb_ic C dJ15_next_52 ?_
      refine pb_iadd C dJ15_next_53 ?_
      refine pb_put C in_J15 tyJ15 tyJ15_ok nmJ15 hI (ci := 16) rfl 0 (by decide) q534 (fun _ h9 => h9) rfl (v := .int (iZ ((((k + 1) : Nat) : Int)))) rfl rfl (Nat.le_of_ble_eq_true rfl) (by omega) dJ15_next_54 fun H1_ hu_ hI => ?_
      have hI : pb_O w H1_ (i) 16 [.int (iZ ((((k + 1) : Nat) : Int))), .int (iZ ((((k : Nat) : Int) - 1))), .int (iZ (((V.length : Nat) : Int))), .ref (a)] := hI
      have hG := hG.kept (hu_.z (by omega))
      have hs_H1_ := hu_.1
      have hO := hO.kept (hu_.2 _ (by omega))
      have hA := hA.kept (hu_.2 _ (by omega))
      have hFF := hFF.tr (hu_.f)
      refine pb_aload_n C dJ15_next_57 rfl (lv_at hl 0 rfl) ?_
      refine pb_aload_n C dJ15_next_58 rfl (lv_at hl 2 rfl) ?_
      refine pb_iload_n C dJ15_next_59 rfl (lv_at hl 1 rfl) ?_
      refine pb_dup_x1 C dJ15_next_60 rfl rfl ?_
      refine pb_put C in_J15 tyJ15 tyJ15_ok nmJ15 hI (ci := 16) rfl 1 (by decide) q535 (fun _ h9 => h9) rfl (v := .int (iZ (((k : Nat) : Int)))) rfl rfl (Nat.le_of_ble_eq_true rfl) (by omega) dJ15_next_61 fun H2_ hu_ hI => ?_
      have hI : pb_O w H2_ (i) 16 [.int (iZ ((((k + 1) : Nat) : Int))), .int (iZ (((k : Nat) : Int))), .int (iZ (((V.length : Nat) : Int))), .ref (a)] := hI
      have hG := hG.kept (hu_.z (by omega))
      have hs_H2_ := hu_.1
      have hO := hO.kept (hu_.2 _ (by omega))
      have hA := hA.kept (hu_.2 _ (by omega))
      have hFF := hFF.tr (hu_.f)
      refine pb_aald C (t := 4) (by decide) hA (i := ((k : Nat) : Int)) (v := .ref ((nV V k))) (by omega) (hg k hk) dJ15_next_64 ?_
      exact pb_aret C (Or.inl ⟨_, rfl⟩) dJ15_next_65 (Or.inr ⟨_, rfl⟩) (⟨_, rfl, rfl, (by show pb_O w _ i 16 [.int (iZ ((k + 1 : Nat) : Int)), .int (iZ (((k + 1 : Nat) : Int) - 1)), .int (iZ ((V.length : Nat) : Int)), .ref a]; rw [show (((k + 1 : Nat) : Int) - 1) = ((k : Nat) : Int) from by omega]; exact hI), hFF⟩)
    · omega
  · omega

set_option maxHeartbeats 1000000 in
theorem met_J3_newLength {w : pb_W} (l : Launch) {H : Heap} (x y z : Nat) (hx : 1 ≤ x ∧ x ≤ 2000 ∧ y ≤ 2000 ∧ z ≤ 2000) : pb_M w l yJ3_newLength cJ3_newLength 4 (some .int) 1 (0) (0) [.int (iZ (((x : Nat) : Int))), .int (iZ (((y : Nat) : Int))), .int (iZ (((z : Nat) : Int)))] H (pb_qx (.int (iZ (((x : Nat) : Int) + max ((y : Nat) : Int) ((z : Nat) : Int)))) H) := by
  refine pb_of (by decide +kernel) (Nat.le_of_ble_eq_true rfl) ?_
  intro p_ e_ s_ m_ ar_ bl_ me_ co_ ls C hh hG hl
  have hl : lv_has ls 4 [(0, .int (iZ (((x : Nat) : Int)))), (1, .int (iZ (((y : Nat) : Int)))), (2, .int (iZ (((z : Nat) : Int))))] := hl
  refine pb_iload_n C dJ3_newLength_0 rfl (lv_at hl 0 rfl) ?_
  refine pb_iload_n C dJ3_newLength_1 rfl (lv_at hl 1 rfl) ?_
  refine pb_iload_n C dJ3_newLength_2 rfl (lv_at hl 2 rfl) ?_
  refine pb_mmax C (x := ((y : Nat) : Int)) (y := ((z : Nat) : Int)) q170 q171 q57 q172 hl.1 ⟨(Nat.le_of_ble_eq_true rfl), (Nat.le_of_ble_eq_true rfl)⟩ (by omega) (by omega) dJ3_newLength_3 ?_
  refine pb_iadd C dJ3_newLength_6 ?_
  refine pb_istore_n C dJ3_newLength_7 rfl hl (by decide) rfl fun ls hl => ?_
  have hl : lv_has ls 4 [(3, .int (iZ ((((x : Nat) : Int) + (max (((y : Nat) : Int)) (((z : Nat) : Int))))))), (0, .int (iZ (((x : Nat) : Int)))), (1, .int (iZ (((y : Nat) : Int)))), (2, .int (iZ (((z : Nat) : Int))))] := hl
  refine pb_ic C dJ3_newLength_8 ?_
  refine pb_iload_n C dJ3_newLength_9 rfl (lv_at hl 0 rfl) ?_
  refine pb_icmp_ge C dJ3_newLength_10 (x := 0) (y := (((x : Nat) : Int) + (max (((y : Nat) : Int)) (((z : Nat) : Int))))) (tgt := 21) (by decide) (by omega) (by omega) (fun c10_ => ?_) (fun c10_ => ?_)
  · omega
  · refine pb_iload_n C dJ3_newLength_13 rfl (lv_at hl 0 rfl) ?_
    refine pb_ldc C dJ3_newLength_14 q173 (2147483639) (by decide +kernel) ?_
    refine pb_icmp_gt C dJ3_newLength_16 (x := (((x : Nat) : Int) + (max (((y : Nat) : Int)) (((z : Nat) : Int))))) (y := 2147483639) (tgt := 21) (by decide) (by omega) (by omega) (fun c16_ => ?_) (fun c16_ => ?_)
    · omega
    · refine pb_iload_n C dJ3_newLength_19 rfl (lv_at hl 0 rfl) ?_
      exact pb_iret C dJ3_newLength_20 (⟨rfl, rfl⟩)

set_option maxHeartbeats 1000000 in
theorem met_J5_copyOf_2 {w : pb_W} (l : Launch) {H0 : Heap} (e n n1 : Nat) (f : Nat → Value) (hA : pb_A w H0 e 4 n f) (hn : 1 ≤ n ∧ n ≤ n1 ∧ n1 ≤ 3000) (hel : ∀ i : Nat, f i = .null ∨ ∃ y, f i = .ref y ∧ pb_El w H0 y) : pb_M w l yJ5_copyOf_2 cJ5_copyOf_2 4 (some (.array (.object "java/lang/Object"))) 1 (1) (n1) [.ref (e), .int (iZ (((n1 : Nat) : Int))), .ref ((w.2.2.1 9))] H0 (pb_qr (fun x H1 => x = H0.size ∧ pb_A w H1 x 4 n1 (va_cpy f (fun _ => .null) 0 0 n) ∧ pb_F (fun _ => True) H0 H1)) := by
  refine pb_of (by decide +kernel) (Nat.le_of_ble_eq_true rfl) ?_
  intro p_ e_ s_ m_ ar_ bl_ me_ co_ ls C hh hG hl
  have hl : lv_has ls 4 [(0, .ref (e)), (1, .int (iZ (((n1 : Nat) : Int)))), (2, .ref ((w.2.2.1 9)))] := hl
  have hz0 := hG.1
  have hlt := hA.lt
  refine pb_aload_n C dJ5_copyOf_2_0 rfl (lv_at hl 2 rfl) ?_
  refine pb_ldcM C q216 dJ5_copyOf_2_1 ?_
  refine pb_acmp_ne C dJ5_copyOf_2_3 (tgt := 13) (by decide) (fun c3_ => ?_) (fun c3_ => ?_)
  · exact absurd rfl c3_
  · refine pb_iload_n C dJ5_copyOf_2_6 rfl (lv_at hl 1 rfl) ?_
    refine pb_newqE C q218 (n := n1) (by omega) (bc' := 0) (bs' := n1 - n1) (by omega) (by omega) dJ5_copyOf_2_7 fun a1_ H1_ ha_ hn_ hN1_ => ?_
    have hs1_ : H1_.size = H0.size + 1 := hn_.1
    have hG := hG.kept (hn_.f.mono (fun _ _ _ => trivial))
    have hA := hA.kept (hn_.2 _ hA.lt)
    have hel := fun i : Nat => (hel i).imp id (fun ⟨y, e1, e2⟩ => (⟨y, e1, e2.kept (hn_.2 _ e2.lt)⟩ : ∃ y, f i = Value.ref y ∧ pb_El w H1_ y))
    have hnF := hn_.f
    obtain rfl : a1_ = H0.size := by omega
    skip
    have hN := hN1_
    refine pb_goto C dJ5_copyOf_2_10 (tgt := 24) (by decide) ?_
    refine pb_astore_n C dJ5_copyOf_2_24 rfl hl (by decide) rfl fun ls hl => ?_
    have hl : lv_has ls 4 [(3, .ref (H0.size)), (0, .ref (e)), (1, .int (iZ (((n1 : Nat) : Int)))), (2, .ref ((w.2.2.1 9)))] := hl
    refine pb_aload_n C dJ5_copyOf_2_25 rfl (lv_at hl 1 rfl) ?_
    refine pb_ic C dJ5_copyOf_2_26 ?_
    refine pb_aload_n C dJ5_copyOf_2_27 rfl (lv_at hl 0 rfl) ?_
    refine pb_ic C dJ5_copyOf_2_28 ?_
    refine pb_aload_n C dJ5_copyOf_2_29 rfl (lv_at hl 1 rfl) ?_
    refine pb_alen C (t := 4) (by decide) hA.b dJ5_copyOf_2_30 ?_
    refine pb_iload_n C dJ5_copyOf_2_31 rfl (lv_at hl 2 rfl) ?_
    refine pb_mmin C (x := ((n : Nat) : Int)) (y := ((n1 : Nat) : Int)) q219 q220 q57 q221 hl.1 ⟨(Nat.le_of_ble_eq_true rfl), (Nat.le_of_ble_eq_true rfl)⟩ (by omega) (by omega) dJ5_copyOf_2_32 ?_
    refine pb_eq (g2 := F0 m_ 35 ls [.int (iZ (((n : Nat) : Int))), .int (iZ (0)), .ref (H0.size), .int (iZ (0)), .ref (e)]) (congrArg (fun z9 => F0 m_ 35 ls [.int (iZ z9), .int (iZ (0)), .ref (H0.size), .int (iZ (0)), .ref (e)]) (show (min (((n : Nat) : Int)) (((n1 : Nat) : Int))) = ((n : Nat) : Int) from (by omega))) ?_
    refine pb_copy C hA hN (sp := 0) (dp := 0) (n := ((n : Nat) : Int)) (by omega) (fun i _ => by rw [show ((0 : Int).toNat + i) = i from Nat.zero_add i]; exact hel i) (by have := hG.1; omega) q222 hl.1 ⟨(Nat.le_of_ble_eq_true rfl), (Nat.le_of_ble_eq_true rfl)⟩ dJ5_copyOf_2_35 fun H2_ hu_ hN => ?_
    have hG := hG.kept (hu_.z (by have := hG.1; omega))
    have hs_H2_ := hu_.1
    have hA := hA.kept (hu_.2 _ (by omega))
    refine pb_aload_n C dJ5_copyOf_2_38 rfl (lv_at hl 0 rfl) ?_
    exact pb_aret C (Or.inr ⟨_, rfl⟩) dJ5_copyOf_2_39 (Or.inr ⟨_, rfl⟩) (⟨_, rfl, rfl, hN, ⟨by have := hu_.1; omega, fun q hq _ => (hu_.2 q (by omega)).trans (hnF.2 q hq trivial)⟩⟩)

set_option maxHeartbeats 1000000 in
theorem met_J5_copyOf {w : pb_W} (l : Launch) {H0 : Heap} (e n n1 : Nat) (f : Nat → Value) (hA : pb_A w H0 e 4 n f) (hn : 1 ≤ n ∧ n ≤ n1 ∧ n1 ≤ 3000) (hel : ∀ i : Nat, f i = .null ∨ ∃ y, f i = .ref y ∧ pb_El w H0 y) : pb_M w l yJ5_copyOf cJ5_copyOf 2 (some (.array (.object "java/lang/Object"))) 2 (1) (n1) [.ref (e), .int (iZ (((n1 : Nat) : Int)))] H0 (pb_qr (fun x H1 => x = H0.size ∧ pb_A w H1 x 4 n1 (va_cpy f (fun _ => .null) 0 0 n) ∧ pb_F (fun _ => True) H0 H1)) := by
  refine pb_of (by decide +kernel) (Nat.le_of_ble_eq_true rfl) ?_
  intro p_ e_ s_ m_ ar_ bl_ me_ co_ ls C hh hG hl
  have hl : lv_has ls 2 [(0, .ref (e)), (1, .int (iZ (((n1 : Nat) : Int))))] := hl
  refine pb_aload_n C dJ5_copyOf_0 rfl (lv_at hl 0 rfl) ?_
  refine pb_iload_n C dJ5_copyOf_1 rfl (lv_at hl 1 rfl) ?_
  refine pb_aload_n C dJ5_copyOf_2 rfl (lv_at hl 0 rfl) ?_
  refine pb_getC C hA.b q180 hl.1 ⟨(Nat.le_of_ble_eq_true rfl), (Nat.le_of_ble_eq_true rfl)⟩ dJ5_copyOf_3 ?_
  refine pb_go_r (bc' := 0) (bs' := n1 - n1) (pb_runS (rest := []) C hG (met_J5_copyOf_2 l e n n1 f hA hn hel) (lw_S q213 q214 q58 q215) hdJ5_copyOf_2 rfl hl.1 rfl (Nat.le_of_ble_eq_true rfl) ⟨(Nat.le_of_ble_eq_true rfl), (Nat.le_of_ble_eq_true rfl)⟩ dJ5_copyOf_6) (by omega) (by omega) (fun a9_ H_ hp_ => ?_)
  exact pb_aret C (Or.inr ⟨_, rfl⟩) dJ5_copyOf_9 (Or.inr ⟨_, rfl⟩) (⟨_, rfl, hp_⟩)

set_option maxHeartbeats 1000000 in
theorem met_J2_grow_2_0 {w : pb_W} (l : Launch) {H0 : Heap} (a : Nat) (v0 v2 : Value) (hz : w.2.2.2 ≤ a) (hO : pb_O w H0 a 15 [v0, .ref (w.2.2.1 0), v2]) : pb_M w l yJ2_grow_2 cJ2_grow_2 4 (some (.array (.object "java/lang/Object"))) 3 (1) (10) [.ref (a), .int (iZ (1))] H0 (pb_qr (fun x H1 => x = H0.size ∧ pb_O w H1 a 15 [v0, .ref x, v2] ∧ pb_A w H1 x 4 10 (fun _ => .null) ∧ pb_F (fun q => q ≠ a) H0 H1)) := by
  refine pb_of (by decide +kernel) (Nat.le_of_ble_eq_true rfl) ?_
  intro p_ e_ s_ m_ ar_ bl_ me_ co_ ls C hh hG hl
  have hl : lv_has ls 4 [(0, .ref (a)), (1, .int (iZ (1)))] := hl
  have hz0 := hG.1
  have hlt := hO.lt
  have hg0 := hG.2.2.1
  have hB0 := hG.2.2.2.1
  have hFF : pb_F (fun q => q ≠ a) H0 H0 := pb_F.rf
  refine pb_aload_n C dJ2_grow_2_0 rfl (lv_at hl 0 rfl) ?_
  refine pb_get C in_J2 hO.r (ci := 15) rfl 1 (by decide) q115 (fun _ h9 => h9) (v := .ref ((w.2.2.1 0))) rfl dJ2_grow_2_1 ?_
  refine pb_alen C (t := 4) (by decide) hB0 dJ2_grow_2_4 ?_
  refine pb_istore_n C dJ2_grow_2_5 rfl hl (by decide) rfl fun ls hl => ?_
  have hl : lv_has ls 4 [(2, .int (iZ (((0 : Nat) : Int)))), (0, .ref (a)), (1, .int (iZ (1)))] := hl
  refine pb_iload_n C dJ2_grow_2_6 rfl (lv_at hl 0 rfl) ?_
  refine pb_if_gt C dJ2_grow_2_7 (x := ((0 : Nat) : Int)) (tgt := 20) (by decide) (by omega) (fun c7_ => ?_) (fun c7_ => ?_)
  · omega
  · refine pb_aload_n C dJ2_grow_2_10 rfl (lv_at hl 1 rfl) ?_
    refine pb_get C in_J2 hO.r (ci := 15) rfl 1 (by decide) q115 (fun _ h9 => h9) (v := .ref ((w.2.2.1 0))) rfl dJ2_grow_2_11 ?_
    refine pb_gets C (n := "DEFAULTCAPACITY_EMPTY_ELEMENTDATA") (v := .ref (w.2.2.1 0)) hG.2.1 q113 (fun _ h9 => h9) dJ2_grow_2_14 ?_
    refine pb_acmp_eq C dJ2_grow_2_17 (tgt := 45) (by decide) (fun c17_ => ?_) (fun c17_ => ?_)
    · refine pb_aload_n C dJ2_grow_2_45 rfl (lv_at hl 1 rfl) ?_
      refine pb_bip C dJ2_grow_2_46 (by decide) ?_
      refine pb_iload_n C dJ2_grow_2_48 rfl (lv_at hl 2 rfl) ?_
      refine pb_mmax C (x := 10) (y := 1) q225 q171 q57 q172 hl.1 ⟨(Nat.le_of_ble_eq_true rfl), (Nat.le_of_ble_eq_true rfl)⟩ (by omega) (by omega) dJ2_grow_2_49 ?_
      refine pb_eq (g2 := F0 m_ 52 ls [.int (iZ (((10 : Nat) : Int))), .ref (a)]) (congrArg (fun z9 => F0 m_ 52 ls [.int (iZ z9), .ref (a)]) (show (max 10 1) = ((10 : Nat) : Int) from (by decide))) ?_
      refine pb_newqE C q226 (n := 10) (by omega) (bc' := 0) (bs' := 0) (by omega) (by omega) dJ2_grow_2_52 fun a1_ H1_ ha_ hn_ hN1_ => ?_
      have hs1_ : H1_.size = H0.size + 1 := hn_.1
      have hG := hG.kept (hn_.f.mono (fun _ _ _ => trivial))
      have hO := hO.kept (hn_.2 _ hO.lt)
      have hB0 := hB0.kept (hn_.2 _ hB0.lt)
      have hFF := hFF.tr (hn_.f.mono (fun _ _ _ => trivial))
      obtain rfl : a1_ = H0.size := by omega
      skip
      have hN := hN1_
      refine pb_dup_x1 C dJ2_grow_2_55 rfl rfl ?_
      refine pb_put C in_J2 tyJ2 tyJ2_ok nmJ2 hO (ci := 15) rfl 1 (by decide) q115 (fun _ h9 => h9) rfl (v := .ref (H0.size)) rfl rfl (Nat.le_of_ble_eq_true rfl) (by omega) dJ2_grow_2_56 fun H2_ hu_ hO => ?_
      have hO : pb_O w H2_ (a) 15 [v0, .ref (H0.size), v2] := hO
      have hG := hG.kept (hu_.z (by omega))
      have hs_H2_ := hu_.1
      have hB0 := hB0.kept (hu_.2 _ (by omega))
      have hN := hN.kept (hu_.2 _ (by omega))
      have hFF := hFF.tr (hu_.f)
      exact pb_aret C (Or.inr ⟨_, rfl⟩) dJ2_grow_2_59 (Or.inr ⟨_, rfl⟩) (⟨_, rfl, rfl, hO, hN, hFF⟩)
    · exact absurd rfl c17_

set_option maxHeartbeats 1000000 in
theorem met_J2_grow_2_1 {w : pb_W} (l : Launch) {H0 : Heap} (a e n : Nat) (f : Nat → Value) (v0 v2 : Value) (hz : w.2.2.2 ≤ a) (hO : pb_O w H0 a 15 [v0, .ref e, v2]) (hA : pb_A w H0 e 4 n f) (hn : 2 ≤ n ∧ n ≤ 1400) (hel : ∀ i : Nat, f i = .null ∨ ∃ y, f i = .ref y ∧ pb_El w H0 y) : pb_M w l yJ2_grow_2 cJ2_grow_2 4 (some (.array (.object "java/lang/Object"))) 3 (1) (n + n / 2) [.ref (a), .int (iZ ((((n + 1) : Nat) : Int)))] H0 (pb_qr (fun x H1 => x = H0.size ∧ pb_O w H1 a 15 [v0, .ref x, v2] ∧ pb_A w H1 x 4 (n + n / 2) (va_cpy f (fun _ => .null) 0 0 n) ∧ pb_F (fun q => q ≠ a) H0 H1)) := by
  refine pb_of (by decide +kernel) (Nat.le_of_ble_eq_true rfl) ?_
  intro p_ e_ s_ m_ ar_ bl_ me_ co_ ls C hh hG hl
  have hl : lv_has ls 4 [(0, .ref (a)), (1, .int (iZ ((((n + 1) : Nat) : Int))))] := hl
  have hz0 := hG.1
  have hlt := hO.lt
  have hae : a ≠ e := hO.r.ty.1.ne C.inj hA.b.ty (by decide) (by decide) (by decide)
  refine pb_aload_n C dJ2_grow_2_0 rfl (lv_at hl 0 rfl) ?_
  refine pb_get C in_J2 hO.r (ci := 15) rfl 1 (by decide) q115 (fun _ h9 => h9) (v := .ref (e)) rfl dJ2_grow_2_1 ?_
  refine pb_alen C (t := 4) (by decide) hA.b dJ2_grow_2_4 ?_
  refine pb_istore_n C dJ2_grow_2_5 rfl hl (by decide) rfl fun ls hl => ?_
  have hl : lv_has ls 4 [(2, .int (iZ (((n : Nat) : Int)))), (0, .ref (a)), (1, .int (iZ ((((n + 1) : Nat) : Int))))] := hl
  refine pb_iload_n C dJ2_grow_2_6 rfl (lv_at hl 0 rfl) ?_
  refine pb_if_gt C dJ2_grow_2_7 (x := ((n : Nat) : Int)) (tgt := 20) (by decide) (by omega) (fun c7_ => ?_) (fun c7_ => ?_)
  · refine pb_iload_n C dJ2_grow_2_20 rfl (lv_at hl 0 rfl) ?_
    refine pb_iload_n C dJ2_grow_2_21 rfl (lv_at hl 2 rfl) ?_
    refine pb_iload_n C dJ2_grow_2_22 rfl (lv_at hl 0 rfl) ?_
    refine pb_isub C dJ2_grow_2_23 ?_
    refine pb_eq (g2 := F0 m_ 24 ls [.int (iZ (((1 : Nat) : Int))), .int (iZ (((n : Nat) : Int)))]) (congrArg (fun z9 => F0 m_ 24 ls [.int (iZ z9), .int (iZ (((n : Nat) : Int)))]) (show ((((n + 1) : Nat) : Int) - ((n : Nat) : Int)) = ((1 : Nat) : Int) from (by omega))) ?_
    refine pb_iload_n C dJ2_grow_2_24 rfl (lv_at hl 0 rfl) ?_
    refine pb_ic C dJ2_grow_2_25 ?_
    refine pb_ishr C dJ2_grow_2_26 (x := n) (y := 1) (by omega) (by omega) ?_
    refine pb_eq (g2 := F0 m_ 27 ls [.int (iZ ((((n / 2) : Nat) : Int))), .int (iZ (((1 : Nat) : Int))), .int (iZ (((n : Nat) : Int)))]) (congrArg (fun z9 => F0 m_ 27 ls [.int (iZ z9), .int (iZ (((1 : Nat) : Int))), .int (iZ (((n : Nat) : Int)))]) (show (((n >>> 1) : Nat) : Int) = (((n / 2) : Nat) : Int) from (congrArg (fun z : Nat => ((z : Nat) : Int)) (Nat.shiftRight_eq_div_pow n 1)))) ?_
    refine pb_go_x (bc' := 1) (bs' := n + n / 2) (pb_runS (rest := []) C hG (met_J3_newLength l n 1 (n / 2) (by omega)) (lw_S q167 q168 q56 q169) hdJ3_newLength rfl hl.1 rfl (Nat.le_of_ble_eq_true rfl) ⟨(Nat.le_of_ble_eq_true rfl), (Nat.le_of_ble_eq_true rfl)⟩ dJ2_grow_2_27) (by omega) (by omega) ?_
    refine pb_eq (g2 := F0 m_ 30 ls [.int (iZ ((((n + n / 2) : Nat) : Int)))]) (congrArg (fun z9 => F0 m_ 30 ls [.int (iZ z9)]) (show (((n : Nat) : Int) + max ((1 : Nat) : Int) ((n / 2 : Nat) : Int)) = (((n + n / 2) : Nat) : Int) from (by omega))) ?_
    refine pb_istore_n C dJ2_grow_2_30 rfl hl (by decide) rfl fun ls hl => ?_
    have hl : lv_has ls 4 [(3, .int (iZ ((((n + n / 2) : Nat) : Int)))), (2, .int (iZ (((n : Nat) : Int)))), (0, .ref (a)), (1, .int (iZ ((((n + 1) : Nat) : Int))))] := hl
    refine pb_aload_n C dJ2_grow_2_31 rfl (lv_at hl 2 rfl) ?_
    refine pb_aload_n C dJ2_grow_2_32 rfl (lv_at hl 2 rfl) ?_
    refine pb_get C in_J2 hO.r (ci := 15) rfl 1 (by decide) q115 (fun _ h9 => h9) (v := .ref (e)) rfl dJ2_grow_2_33 ?_
    refine pb_iload_n C dJ2_grow_2_36 rfl (lv_at hl 0 rfl) ?_
    refine pb_go_r (bc' := 0) (bs' := n + n / 2 - ((n + n / 2))) (pb_runS (rest := [.ref (a)]) C hG (met_J5_copyOf l e n (n + n / 2) f hA (by omega) hel) (lw_S q177 q178 q58 q179) hdJ5_copyOf rfl hl.1 rfl (Nat.le_of_ble_eq_true rfl) ⟨(Nat.le_of_ble_eq_true rfl), (Nat.le_of_ble_eq_true rfl)⟩ dJ2_grow_2_37) (by omega) (by omega) (fun a_ H_ hp_ => ?_)
    obtain ⟨rfl, hN, hF1⟩ := hp_
    have hG := hG.kept (hF1.mono (fun _ _ _ => trivial))
    have hO := hO.kept (hF1.2 _ hO.lt trivial)
    have hA := hA.kept (hF1.2 _ hA.lt trivial)
    have hs9 := hN.lt
    have hFF : pb_F (fun q => q ≠ a) H0 H_ := hF1.mono (fun _ _ _ => trivial)
    refine pb_dup_x1 C dJ2_grow_2_40 rfl rfl ?_
    refine pb_put C in_J2 tyJ2 tyJ2_ok nmJ2 hO (ci := 15) rfl 1 (by decide) q115 (fun _ h9 => h9) rfl (v := .ref (H0.size)) rfl rfl (Nat.le_of_ble_eq_true rfl) (by omega) dJ2_grow_2_41 fun H1_ hu_ hO => ?_
    have hO : pb_O w H1_ (a) 15 [v0, .ref (H0.size), v2] := hO
    have hG := hG.kept (hu_.z (by omega))
    have hs_H1_ := hu_.1
    have hA := hA.kept (hu_.2 _ (by omega))
    have hN := hN.kept (hu_.2 _ (by omega))
    have hFF := hFF.tr (hu_.f)
    exact pb_aret C (Or.inr ⟨_, rfl⟩) dJ2_grow_2_44 (Or.inr ⟨_, rfl⟩) (⟨_, rfl, rfl, hO, hN, hFF⟩)
  · omega

set_option maxHeartbeats 1000000 in
theorem met_J2_grow_0 {w : pb_W} (l : Launch) {H0 : Heap} (a : Nat) (v0 : Value) (hz : w.2.2.2 ≤ a) (hO : pb_O w H0 a 15 [v0, .ref (w.2.2.1 0), .int (iZ ((0 : Nat) : Int))]) : pb_M w l yJ2_grow cJ2_grow 1 (some (.array (.object "java/lang/Object"))) 4 (1) (10) [.ref (a)] H0 (pb_qr (fun x H1 => x = H0.size ∧ pb_O w H1 a 15 [v0, .ref x, .int (iZ ((0 : Nat) : Int))] ∧ pb_A w H1 x 4 10 (fun _ => .null) ∧ pb_F (fun q => q ≠ a) H0 H1)) := by
  refine pb_of (by decide +kernel) (Nat.le_of_ble_eq_true rfl) ?_
  intro p_ e_ s_ m_ ar_ bl_ me_ co_ ls C hh hG hl
  have hl : lv_has ls 1 [(0, .ref (a))] := hl
  refine pb_aload_n C dJ2_grow_0 rfl (lv_at hl 0 rfl) ?_
  refine pb_aload_n C dJ2_grow_1 rfl (lv_at hl 0 rfl) ?_
  refine pb_get C in_J2 hO.r (ci := 15) rfl 2 (by decide) q118 (fun _ h9 => h9) (v := .int (iZ (((0 : Nat) : Int)))) rfl dJ2_grow_2 ?_
  refine pb_ic C dJ2_grow_5 ?_
  refine pb_iadd C dJ2_grow_6 ?_
  refine pb_eq (g2 := F0 m_ 7 ls [.int (iZ (1)), .ref (a)]) (congrArg (fun z9 => F0 m_ 7 ls [.int (iZ z9), .ref (a)]) (show (((0 + 1) : Nat) : Int) = 1 from (by decide))) ?_
  refine pb_go_r (bc' := 0) (bs' := 0) (pb_runV (rest := []) C hG (met_J2_grow_2_0 l a v0 (.int (iZ 0)) hz hO) hO.r (ci := 15) rfl (lw_V q163 q165 qs2 q54 q166) ⟨rfl, hdJ2_grow_2⟩ rfl hl.1 rfl (Nat.le_of_ble_eq_true rfl) ⟨(Nat.le_of_ble_eq_true rfl), (Nat.le_of_ble_eq_true rfl)⟩ dJ2_grow_7) (by omega) (by omega) (fun a9_ H_ hp_ => ?_)
  exact pb_aret C (Or.inr ⟨_, rfl⟩) dJ2_grow_10 (Or.inr ⟨_, rfl⟩) (⟨_, rfl, hp_⟩)

set_option maxHeartbeats 1000000 in
theorem met_J2_grow_1 {w : pb_W} (l : Launch) {H0 : Heap} (a e n : Nat) (f : Nat → Value) (v0 : Value) (hz : w.2.2.2 ≤ a) (hO : pb_O w H0 a 15 [v0, .ref e, .int (iZ ((n : Nat) : Int))]) (hA : pb_A w H0 e 4 n f) (hn : 2 ≤ n ∧ n ≤ 1400) (hel : ∀ i : Nat, f i = .null ∨ ∃ y, f i = .ref y ∧ pb_El w H0 y) : pb_M w l yJ2_grow cJ2_grow 1 (some (.array (.object "java/lang/Object"))) 4 (1) (n + n / 2) [.ref (a)] H0 (pb_qr (fun x H1 => x = H0.size ∧ pb_O w H1 a 15 [v0, .ref x, .int (iZ ((n : Nat) : Int))] ∧ pb_A w H1 x 4 (n + n / 2) (va_cpy f (fun _ => .null) 0 0 n) ∧ pb_F (fun q => q ≠ a) H0 H1)) := by
  refine pb_of (by decide +kernel) (Nat.le_of_ble_eq_true rfl) ?_
  intro p_ e_ s_ m_ ar_ bl_ me_ co_ ls C hh hG hl
  have hl : lv_has ls 1 [(0, .ref (a))] := hl
  refine pb_aload_n C dJ2_grow_0 rfl (lv_at hl 0 rfl) ?_
  refine pb_aload_n C dJ2_grow_1 rfl (lv_at hl 0 rfl) ?_
  refine pb_get C in_J2 hO.r (ci := 15) rfl 2 (by decide) q118 (fun _ h9 => h9) (v := .int (iZ (((n : Nat) : Int)))) rfl dJ2_grow_2 ?_
  refine pb_ic C dJ2_grow_5 ?_
  refine pb_iadd C dJ2_grow_6 ?_
  refine pb_go_r (bc' := 0) (bs' := n + n / 2 - ((n + n / 2))) (pb_runV (rest := []) C hG (met_J2_grow_2_1 l a e n f v0 (.int (iZ ((n : Nat) : Int))) hz hO hA hn hel) hO.r (ci := 15) rfl (lw_V q163 q165 qs2 q54 q166) ⟨rfl, hdJ2_grow_2⟩ rfl hl.1 rfl (Nat.le_of_ble_eq_true rfl) ⟨(Nat.le_of_ble_eq_true rfl), (Nat.le_of_ble_eq_true rfl)⟩ dJ2_grow_7) (by omega) (by omega) (fun a9_ H_ hp_ => ?_)
  exact pb_aret C (Or.inr ⟨_, rfl⟩) dJ2_grow_10 (Or.inr ⟨_, rfl⟩) (⟨_, rfl, hp_⟩)

set_option maxHeartbeats 1000000 in
theorem met_J2_add_2_0 {w : pb_W} (l : Launch) {H0 : Heap} (a e n c : Nat) (f : Nat → Value) (v0 : Value) (v : Nat) (hv : pb_El w H0 v) (hva : v ≠ a) (hz : w.2.2.2 ≤ a) (hze : w.2.2.2 ≤ e) (hO : pb_O w H0 a 15 [v0, .ref e, .int (iZ ((n : Nat) : Int))]) (hA : pb_A w H0 e 4 c f) (hn : n < c ∧ c ≤ 2000) : pb_M w l yJ2_add_2 cJ2_add_2 4 none 5 (0) (0) [.ref (a), .ref (v), .ref (e), .int (iZ (((n : Nat) : Int)))] H0 (pb_qv (fun H1 => ∃ e1, (e1 = e) ∧ pb_O w H1 a 15 [v0, .ref e1, .int (iZ ((n + 1 : Nat) : Int))] ∧ pb_A w H1 e1 4 c (updV f n (.ref v)) ∧ pb_F (fun q => q ≠ a ∧ q ≠ e) H0 H1)) := by
  refine pb_of (by decide +kernel) (Nat.le_of_ble_eq_true rfl) ?_
  intro p_ e_ s_ m_ ar_ bl_ me_ co_ ls C hh hG hl
  have hl : lv_has ls 4 [(0, .ref (a)), (1, .ref (v)), (2, .ref (e)), (3, .int (iZ (((n : Nat) : Int))))] := hl
  have hae : a ≠ e := hO.r.ty.1.ne C.inj hA.b.ty (by decide) (by decide) (by decide)
  have hFF : pb_F (fun q => q ≠ a ∧ q ≠ e) H0 H0 := pb_F.rf
  refine pb_iload_n C dJ2_add_2_0 rfl (lv_at hl 3 rfl) ?_
  refine pb_aload_n C dJ2_add_2_1 rfl (lv_at hl 2 rfl) ?_
  refine pb_alen C (t := 4) (by decide) hA.b dJ2_add_2_2 ?_
  refine pb_icmp_ne C dJ2_add_2_3 (x := ((n : Nat) : Int)) (y := ((c : Nat) : Int)) (tgt := 11) (by decide) (by omega) (by omega) (fun c3_ => ?_) (fun c3_ => ?_)
  · refine pb_aload_n C dJ2_add_2_11 rfl (lv_at hl 2 rfl) ?_
    refine pb_iload_n C dJ2_add_2_12 rfl (lv_at hl 3 rfl) ?_
    refine pb_aload_n C dJ2_add_2_13 rfl (lv_at hl 1 rfl) ?_
    refine pb_aast C hA hv (i := ((n : Nat) : Int)) (by omega) (by omega) dJ2_add_2_14 fun H1_ hu_ hA => ?_
    rw [Int.toNat_natCast] at hA
    have hG := hG.kept (hu_.z (by omega))
    have hs_H1_ := hu_.1
    have hO := hO.kept (hu_.2 _ (by omega))
    have hFF := hFF.tr (hu_.f.mono (fun q _ hq => hq.2))
    refine pb_aload_n C dJ2_add_2_15 rfl (lv_at hl 0 rfl) ?_
    refine pb_iload_n C dJ2_add_2_16 rfl (lv_at hl 3 rfl) ?_
    refine pb_ic C dJ2_add_2_17 ?_
    refine pb_iadd C dJ2_add_2_18 ?_
    refine pb_put C in_J2 tyJ2 tyJ2_ok nmJ2 hO (ci := 15) rfl 2 (by decide) q118 (fun _ h9 => h9) rfl (v := .int (iZ ((((n + 1) : Nat) : Int)))) rfl rfl (Nat.le_of_ble_eq_true rfl) (by omega) dJ2_add_2_19 fun H2_ hu_ hO => ?_
    have hO : pb_O w H2_ (a) 15 [v0, .ref (e), .int (iZ ((((n + 1) : Nat) : Int)))] := hO
    have hG := hG.kept (hu_.z (by omega))
    have hs_H2_ := hu_.1
    have hA := hA.kept (hu_.2 _ (by omega))
    have hFF := hFF.tr (hu_.f.mono (fun q _ hq => hq.1))
    exact pb_vret C dJ2_add_2_22 (⟨rfl, e, rfl, hO, hA, hFF⟩)
  · omega

set_option maxHeartbeats 1000000 in
theorem met_J2_add_2_1 {w : pb_W} (l : Launch) {H0 : Heap} (a e : Nat) (he : e = w.2.2.1 0) (v0 : Value) (v : Nat) (hv : pb_El w H0 v) (hva : v ≠ a) (hz : w.2.2.2 ≤ a) (hO : pb_O w H0 a 15 [v0, .ref (w.2.2.1 0), .int (iZ ((0 : Nat) : Int))]) : pb_M w l yJ2_add_2 cJ2_add_2 4 none 5 (1) (10) [.ref (a), .ref (v), .ref ((w.2.2.1 0)), .int (iZ (((0 : Nat) : Int)))] H0 (pb_qv (fun H1 => ∃ e1, (e1 = H0.size) ∧ pb_O w H1 a 15 [v0, .ref e1, .int (iZ ((0 + 1 : Nat) : Int))] ∧ pb_A w H1 e1 4 10 (updV (fun _ => .null) 0 (.ref v)) ∧ pb_F (fun q => q ≠ a) H0 H1)) := by
  refine pb_of (by decide +kernel) (Nat.le_of_ble_eq_true rfl) ?_
  intro p_ e_ s_ m_ ar_ bl_ me_ co_ ls C hh hG hl
  have hl : lv_has ls 4 [(0, .ref (a)), (1, .ref (v)), (2, .ref ((w.2.2.1 0))), (3, .int (iZ (((0 : Nat) : Int))))] := hl
  have hz0 := hG.1
  have hlt := hO.lt
  have hB0 := hG.2.2.2.1
  refine pb_iload_n C dJ2_add_2_0 rfl (lv_at hl 3 rfl) ?_
  refine pb_aload_n C dJ2_add_2_1 rfl (lv_at hl 2 rfl) ?_
  refine pb_alen C (t := 4) (by decide) hB0 dJ2_add_2_2 ?_
  refine pb_icmp_ne C dJ2_add_2_3 (x := ((0 : Nat) : Int)) (y := ((0 : Nat) : Int)) (tgt := 11) (by decide) (by omega) (by omega) (fun c3_ => ?_) (fun c3_ => ?_)
  · omega
  · refine pb_aload_n C dJ2_add_2_6 rfl (lv_at hl 0 rfl) ?_
    refine pb_go_r (bc' := 0) (bs' := 0) (pb_runV (rest := []) C hG (met_J2_grow_0 l a v0 hz hO) hO.r (ci := 15) rfl (lw_V q159 q161 qs1 q54 q162) ⟨rfl, hdJ2_grow⟩ rfl hl.1 rfl (Nat.le_of_ble_eq_true rfl) ⟨(Nat.le_of_ble_eq_true rfl), (Nat.le_of_ble_eq_true rfl)⟩ dJ2_add_2_7) (by omega) (by omega) (fun a_ H_ hp_ => ?_)
    obtain ⟨rfl, hO, hN, hF1⟩ := hp_
    have hG := hG.kept (hF1.mono (fun q _ (hq : q < w.2.2.2) => show q ≠ _ from by omega))
    have hv := hv.kept (hF1.2 _ hv.lt hva)
    have hs9 := hN.lt
    have hFF : pb_F (fun q => q ≠ a) H0 H_ := hF1.mono (fun q _ hq => hq)
    refine pb_astore_n C dJ2_add_2_10 rfl hl (by decide) rfl fun ls hl => ?_
    have hl : lv_has ls 4 [(2, .ref (H0.size)), (0, .ref (a)), (1, .ref (v)), (3, .int (iZ (((0 : Nat) : Int))))] := hl
    refine pb_aload_n C dJ2_add_2_11 rfl (lv_at hl 0 rfl) ?_
    refine pb_iload_n C dJ2_add_2_12 rfl (lv_at hl 3 rfl) ?_
    refine pb_aload_n C dJ2_add_2_13 rfl (lv_at hl 2 rfl) ?_
    refine pb_aast C hN hv (i := ((0 : Nat) : Int)) (by omega) (by omega) dJ2_add_2_14 fun H1_ hu_ hN => ?_
    rw [Int.toNat_natCast] at hN
    have hG := hG.kept (hu_.z (by omega))
    have hs_H1_ := hu_.1
    have hO := hO.kept (hu_.2 _ (by omega))
    have hFF : pb_F (fun q => q ≠ a) H0 H1_ := ⟨by have := hFF.1; have := hu_.1; omega, fun q hq hp => (hu_.2 q (by omega)).trans (hFF.2 q hq hp)⟩
    refine pb_aload_n C dJ2_add_2_15 rfl (lv_at hl 1 rfl) ?_
    refine pb_iload_n C dJ2_add_2_16 rfl (lv_at hl 3 rfl) ?_
    refine pb_ic C dJ2_add_2_17 ?_
    refine pb_iadd C dJ2_add_2_18 ?_
    refine pb_put C in_J2 tyJ2 tyJ2_ok nmJ2 hO (ci := 15) rfl 2 (by decide) q118 (fun _ h9 => h9) rfl (v := .int (iZ ((((0 + 1) : Nat) : Int)))) rfl rfl (Nat.le_of_ble_eq_true rfl) (by omega) dJ2_add_2_19 fun H2_ hu_ hO => ?_
    have hO : pb_O w H2_ (a) 15 [v0, .ref (H0.size), .int (iZ ((((0 + 1) : Nat) : Int)))] := hO
    have hG := hG.kept (hu_.z (by omega))
    have hs_H2_ := hu_.1
    have hN := hN.kept (hu_.2 _ (by omega))
    have hFF : pb_F (fun q => q ≠ a) H0 H2_ := ⟨by have := hFF.1; have := hu_.1; omega, fun q hq hp => (hu_.2 q hp).trans (hFF.2 q hq hp)⟩
    exact pb_vret C dJ2_add_2_22 (⟨rfl, H0.size, rfl, hO, hN, hFF⟩)

set_option maxHeartbeats 1000000 in
theorem met_J2_add_2_2 {w : pb_W} (l : Launch) {H0 : Heap} (a e n : Nat) (f : Nat → Value) (v0 : Value) (v : Nat) (hv : pb_El w H0 v) (hva : v ≠ a) (hz : w.2.2.2 ≤ a) (hO : pb_O w H0 a 15 [v0, .ref e, .int (iZ ((n : Nat) : Int))]) (hA : pb_A w H0 e 4 n f) (hn : 2 ≤ n ∧ n ≤ 1400) (hel : ∀ i : Nat, f i = .null ∨ ∃ y, f i = .ref y ∧ pb_El w H0 y) : pb_M w l yJ2_add_2 cJ2_add_2 4 none 5 (1) (n + n / 2) [.ref (a), .ref (v), .ref (e), .int (iZ (((n : Nat) : Int)))] H0 (pb_qv (fun H1 => ∃ e1, (e1 = H0.size) ∧ pb_O w H1 a 15 [v0, .ref e1, .int (iZ ((n + 1 : Nat) : Int))] ∧ pb_A w H1 e1 4 (n + n / 2) (updV (va_cpy f (fun _ => .null) 0 0 n) n (.ref v)) ∧ pb_F (fun q => q ≠ a ∧ q ≠ e) H0 H1)) := by
  refine pb_of (by decide +kernel) (Nat.le_of_ble_eq_true rfl) ?_
  intro p_ e_ s_ m_ ar_ bl_ me_ co_ ls C hh hG hl
  have hl : lv_has ls 4 [(0, .ref (a)), (1, .ref (v)), (2, .ref (e)), (3, .int (iZ (((n : Nat) : Int))))] := hl
  have hz0 := hG.1
  have hlt := hO.lt
  refine pb_iload_n C dJ2_add_2_0 rfl (lv_at hl 3 rfl) ?_
  refine pb_aload_n C dJ2_add_2_1 rfl (lv_at hl 2 rfl) ?_
  refine pb_alen C (t := 4) (by decide) hA.b dJ2_add_2_2 ?_
  refine pb_icmp_ne C dJ2_add_2_3 (x := ((n : Nat) : Int)) (y := ((n : Nat) : Int)) (tgt := 11) (by decide) (by omega) (by omega) (fun c3_ => ?_) (fun c3_ => ?_)
  · omega
  · refine pb_aload_n C dJ2_add_2_6 rfl (lv_at hl 0 rfl) ?_
    refine pb_go_r (bc' := 0) (bs' := n + n / 2 - ((n + n / 2))) (pb_runV (rest := []) C hG (met_J2_grow_1 l a e n f v0 hz hO hA hn hel) hO.r (ci := 15) rfl (lw_V q159 q161 qs1 q54 q162) ⟨rfl, hdJ2_grow⟩ rfl hl.1 rfl (Nat.le_of_ble_eq_true rfl) ⟨(Nat.le_of_ble_eq_true rfl), (Nat.le_of_ble_eq_true rfl)⟩ dJ2_add_2_7) (by omega) (by omega) (fun a_ H_ hp_ => ?_)
    obtain ⟨rfl, hO, hN, hF1⟩ := hp_
    have hG := hG.kept (hF1.mono (fun q _ (hq : q < w.2.2.2) => show q ≠ _ from by omega))
    have hv := hv.kept (hF1.2 _ hv.lt hva)
    have hs9 := hN.lt
    have hFF : pb_F (fun q => q ≠ a ∧ q ≠ e) H0 H_ := hF1.mono (fun q _ hq => hq.1)
    refine pb_astore_n C dJ2_add_2_10 rfl hl (by decide) rfl fun ls hl => ?_
    have hl : lv_has ls 4 [(2, .ref (H0.size)), (0, .ref (a)), (1, .ref (v)), (3, .int (iZ (((n : Nat) : Int))))] := hl
    refine pb_aload_n C dJ2_add_2_11 rfl (lv_at hl 0 rfl) ?_
    refine pb_iload_n C dJ2_add_2_12 rfl (lv_at hl 3 rfl) ?_
    refine pb_aload_n C dJ2_add_2_13 rfl (lv_at hl 2 rfl) ?_
    refine pb_aast C hN hv (i := ((n : Nat) : Int)) (by omega) (by omega) dJ2_add_2_14 fun H1_ hu_ hN => ?_
    rw [Int.toNat_natCast] at hN
    have hG := hG.kept (hu_.z (by omega))
    have hs_H1_ := hu_.1
    have hO := hO.kept (hu_.2 _ (by omega))
    have hFF : pb_F (fun q => q ≠ a ∧ q ≠ e) H0 H1_ := ⟨by have := hFF.1; have := hu_.1; omega, fun q hq hp => (hu_.2 q (by omega)).trans (hFF.2 q hq hp)⟩
    refine pb_aload_n C dJ2_add_2_15 rfl (lv_at hl 1 rfl) ?_
    refine pb_iload_n C dJ2_add_2_16 rfl (lv_at hl 3 rfl) ?_
    refine pb_ic C dJ2_add_2_17 ?_
    refine pb_iadd C dJ2_add_2_18 ?_
    refine pb_put C in_J2 tyJ2 tyJ2_ok nmJ2 hO (ci := 15) rfl 2 (by decide) q118 (fun _ h9 => h9) rfl (v := .int (iZ ((((n + 1) : Nat) : Int)))) rfl rfl (Nat.le_of_ble_eq_true rfl) (by omega) dJ2_add_2_19 fun H2_ hu_ hO => ?_
    have hO : pb_O w H2_ (a) 15 [v0, .ref (H0.size), .int (iZ ((((n + 1) : Nat) : Int)))] := hO
    have hG := hG.kept (hu_.z (by omega))
    have hs_H2_ := hu_.1
    have hN := hN.kept (hu_.2 _ (by omega))
    have hFF : pb_F (fun q => q ≠ a ∧ q ≠ e) H0 H2_ := ⟨by have := hFF.1; have := hu_.1; omega, fun q hq hp => (hu_.2 q hp.1).trans (hFF.2 q hq hp)⟩
    exact pb_vret C dJ2_add_2_22 (⟨rfl, H0.size, rfl, hO, hN, hFF⟩)

theorem met_J2_add_2 {w : pb_W} (l : Launch) {H0 : Heap} (z a e v : Nat) (V : List Nat) (hz : w.2.2.2 ≤ z) (hza : z ≤ a) (hze : w.2.2.1 0 < w.2.2.2) (hO : pb_O w H0 a 15 [.int (iZ ((V.length + 1 : Nat) : Int)), .ref e, .int (iZ ((V.length : Nat) : Int))]) (hV : (V = [] ∧ e = w.2.2.1 0) ∨ (V ≠ [] ∧ z ≤ e ∧ pb_A w H0 e 4 (capL V.length) (vV V))) (hv : pb_El w H0 v) (hva : v ≠ a) (hel : ∀ x ∈ V, pb_El w H0 x) (hn : V.length < 1851) :
    pb_M w l yJ2_add_2 cJ2_add_2 4 none 5 (lC (V.length + 1) - lC V.length) (lS (V.length + 1) - lS V.length) [.ref a, .ref v, .ref e, .int (iZ ((V.length : Nat) : Int))] H0 (pb_qv (fun H1 => ∃ e1, (e1 = e ∨ H0.size ≤ e1) ∧ Lb w H1 z a e1 (V ++ [v]) ∧ pb_F (fun q => q < z ∨ (q ≠ a ∧ q ≠ e)) H0 H1)) := by
  have hne : V ++ [v] ≠ [] := by simp
  have hzs : ∀ q, q < z → q ≠ a := fun q h => by omega
  rcases l_step hn with ⟨s1, s2, s3, s4⟩ | ⟨s1, s2, s3, s4, s5⟩ | ⟨s1, s2, s3, s4, s5⟩
  · rcases hV with ⟨h1, h2⟩ | ⟨h1, h2, h3⟩
    · rw [h1] at s1; exact absurd s1 (by decide)
    · rw [show lC (V.length + 1) - lC V.length = 0 by omega, show lS (V.length + 1) - lS V.length = 0 by omega]
      refine pb_M.post (met_J2_add_2_0 l a e V.length (capL V.length) (vV V) _ v hv hva (by omega) (by omega) hO h3 ⟨s1, capL_le _⟩) ?_
      rintro o H1 ⟨rfl, e1, rfl, hO1, hA1, hF⟩
      refine ⟨rfl, e1, Or.inl rfl, ⟨hza, by rw [List.length_append]; exact hO1, Or.inr ⟨hne, h2, by rw [List.length_append, List.length_singleton, s4, ← vV_app]; exact hA1⟩⟩, hF.mono (fun q _ hq => ?_)⟩
      rcases hq with hq | hq
      · exact ⟨by omega, by omega⟩
      · exact hq
  · rcases hV with ⟨h1, h2⟩ | ⟨h1, h2, h3⟩
    · subst h1; subst h2
      rw [show lC (([] : List Nat).length + 1) - lC ([] : List Nat).length = 1 by decide, show lS (([] : List Nat).length + 1) - lS ([] : List Nat).length = 10 by decide]
      refine pb_M.post (met_J2_add_2_1 l a (w.2.2.1 0) rfl _ v hv hva (by omega) hO) ?_
      rintro o H1 ⟨rfl, e1, rfl, hO1, hA1, hF⟩
      refine ⟨rfl, H0.size, Or.inr (Nat.le_refl _), ⟨hza, hO1, Or.inr ⟨hne, by have := hO.lt; omega, by rw [← vV_app, vV_nil]; exact hA1⟩⟩, hF.mono (fun q _ hq => ?_)⟩
      rcases hq with hq | hq
      · show q ≠ a; omega
      · exact hq.1
    · exact absurd (List.length_eq_zero_iff.mp s1) h1
  · rcases hV with ⟨h1, h2⟩ | ⟨h1, h2, h3⟩
    · rw [h1] at s1; exact absurd s1 (by decide)
    · rw [show lC (V.length + 1) - lC V.length = 1 by omega, show lS (V.length + 1) - lS V.length = V.length + V.length / 2 by omega]
      rw [s2] at h3
      have hl13 : V.length ≤ 1400 := by have := capL_le (V.length + 1); omega
      refine pb_M.post (met_J2_add_2_2 l a e V.length (vV V) _ v hv hva (by omega) hO h3 ⟨s1, by omega⟩ (vV_el hel)) ?_
      rintro o H1 ⟨rfl, e1, rfl, hO1, hA1, hF⟩
      refine ⟨rfl, H0.size, Or.inr (Nat.le_refl _), ⟨hza, by rw [List.length_append]; exact hO1, Or.inr ⟨hne, by have := hO.lt; omega, by rw [List.length_append, List.length_singleton, s3, ← vV_app]; rw [vV_cpy] at hA1; exact hA1⟩⟩, hF.mono (fun q _ hq => ?_)⟩
      rcases hq with hq | hq
      · exact ⟨by omega, by omega⟩
      · exact hq

set_option maxHeartbeats 1000000 in
theorem met_J2_add {w : pb_W} (l : Launch) {H0 : Heap} (z a e v : Nat) (V : List Nat) (hz : w.2.2.2 ≤ z) (hL : Lb w H0 z a e V) (hv : pb_El w H0 v) (hva : v ≠ a) (hel : ∀ x ∈ V, pb_El w H0 x) (hn : V.length < 1851) : pb_M w l yJ2_add cJ2_add 2 (some .boolean) 6 (lC (V.length + 1) - lC V.length) (lS (V.length + 1) - lS V.length) [.ref (a), .ref (v)] H0 (pb_qi (fun _ H1 => ∃ e1, (e1 = e ∨ H0.size ≤ e1) ∧ Lb w H1 z a e1 (V ++ [v]) ∧ pb_F (fun q => q < z ∨ (q ≠ a ∧ q ≠ e)) H0 H1)) := by
  refine pb_of (by decide +kernel) (Nat.le_of_ble_eq_true rfl) ?_
  intro p_ e_ s_ m_ ar_ bl_ me_ co_ ls C hh hG hl
  have hl : lv_has ls 2 [(0, .ref (a)), (1, .ref (v))] := hl
  obtain ⟨hza, hO, hV⟩ := id hL
  have hz0 := hG.1
  have hze := hG.2.2.1
  have hFF : pb_F (fun q => q < z ∨ (q ≠ a ∧ q ≠ e)) H0 H0 := pb_F.rf
  have hae : V ≠ [] → e ≠ a := hV.elim (fun h h2 => absurd h.1 h2) (fun h _ => Ne.symm (hO.r.ty.1.ne C.inj h.2.2.b.ty (by decide) (by decide) (by decide)))
  refine pb_aload_n C dJ2_add_0 rfl (lv_at hl 0 rfl) ?_
  refine pb_dup C dJ2_add_1 rfl ?_
  refine pb_get C in_J2 hO.r (ci := 15) rfl 0 (by decide) q122 (fun x h9 => u_same (C.2.2.2.2.1 _ q121) x h9) (v := .int (iZ (((V.length : Nat) : Int)))) rfl dJ2_add_2 ?_
  refine pb_ic C dJ2_add_5 ?_
  refine pb_iadd C dJ2_add_6 ?_
  refine pb_put C in_J2 tyJ2 tyJ2_ok nmJ2 hO (ci := 15) rfl 0 (by decide) q122 (fun x h9 => u_same (C.2.2.2.2.1 _ q121) x h9) rfl (v := .int (iZ ((((V.length + 1) : Nat) : Int)))) rfl rfl (Nat.le_of_ble_eq_true rfl) (by omega) dJ2_add_7 fun H1_ hu_ hO => ?_
  have hO : pb_O w H1_ (a) 15 [.int (iZ ((((V.length + 1) : Nat) : Int))), .ref (e), .int (iZ (((V.length : Nat) : Int)))] := hO
  have hG := hG.kept (hu_.z (by omega))
  have hs_H1_ := hu_.1
  have hFF := hFF.tr (hu_.f.mono (fun q _ hq => show q ≠ a from by rcases hq with h | h <;> omega))
  have hV : (V = [] ∧ e = w.2.2.1 0) ∨ (V ≠ [] ∧ z ≤ e ∧ pb_A w H1_ e 4 (capL V.length) (vV V)) := hV.imp id (fun ⟨v1, v2, v3⟩ => ⟨v1, v2, v3.kept (hu_.2 _ (hae v1))⟩)
  have hv := hv.kept (hu_.2 _ hva)
  have hel : ∀ x ∈ V, pb_El w H1_ x := fun x hx => pb_El.up hO.r (hel x hx) hu_
  refine pb_aload_n C dJ2_add_10 rfl (lv_at hl 0 rfl) ?_
  refine pb_aload_n C dJ2_add_11 rfl (lv_at hl 1 rfl) ?_
  refine pb_aload_n C dJ2_add_12 rfl (lv_at hl 0 rfl) ?_
  refine pb_get C in_J2 hO.r (ci := 15) rfl 1 (by decide) q115 (fun _ h9 => h9) (v := .ref (e)) rfl dJ2_add_13 ?_
  refine pb_aload_n C dJ2_add_16 rfl (lv_at hl 0 rfl) ?_
  refine pb_get C in_J2 hO.r (ci := 15) rfl 2 (by decide) q118 (fun _ h9 => h9) (v := .int (iZ (((V.length : Nat) : Int)))) rfl dJ2_add_17 ?_
  refine pb_go_v (bc' := lC (V.length + 1) - lC V.length - ((lC (V.length + 1) - lC V.length))) (bs' := lS (V.length + 1) - lS V.length - ((lS (V.length + 1) - lS V.length))) (pb_runV (rest := []) C hG (met_J2_add_2 l z a e v V hz hza hze hO hV hv hva hel hn) hO.r (ci := 15) rfl (lw_V q155 q157 qs0 q54 q158) ⟨rfl, hdJ2_add_2⟩ rfl hl.1 rfl (Nat.le_of_ble_eq_true rfl) ⟨(Nat.le_of_ble_eq_true rfl), (Nat.le_of_ble_eq_true rfl)⟩ dJ2_add_20) (by omega) (by omega) (fun H_ hp_ => ?_)
  obtain ⟨e1, he1, hL1, hF1⟩ := hp_
  have hF9 := hFF.tr hF1
  refine pb_ic C dJ2_add_23 ?_
  exact pb_zret C dJ2_add_24 (by decide +kernel) (⟨_, rfl, e1, by have := hFF.1; omega, hL1, hF9⟩)

