set_option maxRecDepth 100000
set_option maxHeartbeats 1000000 in
theorem met_J2_set {w : pb_W} (l : Launch) {H0 : Heap} (z a e v i : Nat) (V : List Nat) (hz : w.2.2.2 ≤ z) (hL : Lb w H0 z a e V) (hi : i < V.length) (hn : V.length ≤ 1851) (hv : pb_El w H0 v) : pb_M w l yJ2_set cJ2_set 4 (some (.object "java/lang/Object")) 3 (0) (0) [.ref (a), .int (iZ (((i : Nat) : Int))), .ref (v)] H0 (pb_qr (fun r H1 => r = nV V i ∧ Lb w H1 z a e (V.set i v) ∧ pb_F (fun q => q ≠ e) H0 H1)) := by
  refine pb_of (by decide +kernel) (Nat.le_of_ble_eq_true rfl) ?_
  intro p_ e_ s_ m_ ar_ bl_ me_ co_ ls C hh hG hl
  have hl : lv_has ls 4 [(0, .ref (a)), (1, .int (iZ (((i : Nat) : Int)))), (2, .ref (v))] := hl
  have hLr := hL.r hn
  obtain ⟨hza, hO, hV⟩ := id hL
  rcases hV with hV | ⟨hne, hze, hA⟩
  · rw [hV.1] at hi; exact absurd hi (Nat.not_lt_zero _)
  have hcl := capL_ge hn
  have hcl2 := capL_le V.length
  have hae : a ≠ e := hO.r.ty.1.ne C.inj hA.b.ty (by decide) (by decide) (by decide)
  refine pb_iload_n C dJ2_set_0 rfl (lv_at hl 1 rfl) ?_
  refine pb_aload_n C dJ2_set_1 rfl (lv_at hl 0 rfl) ?_
  refine pb_get C in_J2 hO.r (ci := 15) rfl 2 (by decide) q118 (fun _ h9 => h9) (v := .int (iZ (((V.length : Nat) : Int)))) rfl dJ2_set_2 ?_
  refine pb_go_x (bc' := 0) (bs' := 0) (pb_runS (rest := []) C hG (met_J12_checkIndex l i V.length hi (by omega)) (lw_S q365 q366 q67 q367) hdJ12_checkIndex rfl hl.1 rfl (Nat.le_of_ble_eq_true rfl) ⟨(Nat.le_of_ble_eq_true rfl), (Nat.le_of_ble_eq_true rfl)⟩ dJ2_set_5) (by omega) (by omega) ?_
  refine pb_pop C dJ2_set_8 rfl ?_
  refine pb_aload_n C dJ2_set_9 rfl (lv_at hl 0 rfl) ?_
  refine pb_iload_n C dJ2_set_10 rfl (lv_at hl 1 rfl) ?_
  refine pb_go_x (bc' := 0) (bs' := 0) (pb_runV (rest := []) C hG (met_J2_elementData l a _ V hLr i hi) hO.r (ci := 15) rfl (lw_V q371 q372 q373 q54 q374) ⟨rfl, hdJ2_elementData⟩ rfl hl.1 rfl (Nat.le_of_ble_eq_true rfl) ⟨(Nat.le_of_ble_eq_true rfl), (Nat.le_of_ble_eq_true rfl)⟩ dJ2_set_11) (by omega) (by omega) ?_
  refine pb_astore_n C dJ2_set_14 rfl hl (by decide) rfl fun ls hl => ?_
  have hl : lv_has ls 4 [(3, .ref ((nV V i))), (0, .ref (a)), (1, .int (iZ (((i : Nat) : Int)))), (2, .ref (v))] := hl
  refine pb_aload_n C dJ2_set_15 rfl (lv_at hl 1 rfl) ?_
  refine pb_get C in_J2 hO.r (ci := 15) rfl 1 (by decide) q115 (fun _ h9 => h9) (v := .ref (e)) rfl dJ2_set_16 ?_
  refine pb_iload_n C dJ2_set_19 rfl (lv_at hl 2 rfl) ?_
  refine pb_aload_n C dJ2_set_20 rfl (lv_at hl 3 rfl) ?_
  refine pb_aast C hA hv (i := ((i : Nat) : Int)) (by omega) (by omega) dJ2_set_21 fun H1_ hu_ hA => ?_
  rw [Int.toNat_natCast] at hA
  have hG := hG.kept (hu_.z (by omega))
  have hs_H1_ := hu_.1
  have hO := hO.kept (hu_.2 _ (by omega))
  refine pb_aload_n C dJ2_set_22 rfl (lv_at hl 0 rfl) ?_
  exact pb_aret C (Or.inl ⟨_, rfl⟩) dJ2_set_23 (Or.inr ⟨_, rfl⟩) (⟨_, rfl, rfl, ⟨hza, by rw [List.length_set]; exact hO, Or.inr ⟨by rw [Ne, ← List.length_eq_zero_iff, List.length_set]; omega, hze, by rw [List.length_set, ← vV_set hi]; exact hA⟩⟩, hu_.f⟩)

set_option maxHeartbeats 1000000 in
theorem met_X1_isSheet {w : pb_W} (l : Launch) {H : Heap} (x : Int) (hx : -2147483648 ≤ x ∧ x ≤ 2147483647) : pb_M w l yX1_isSheet cX1_isSheet 1 (some .boolean) 1 (0) (0) [.int (iZ (x))] H (pb_qx (.int (iZ (bI (decide (0 ≤ x ∧ x ≤ 7))))) H) := by
  refine pb_of (by decide +kernel) (Nat.le_of_ble_eq_true rfl) ?_
  intro p_ e_ s_ m_ ar_ bl_ me_ co_ ls C hh hG hl
  have hl : lv_has ls 1 [(0, .int (iZ (x)))] := hl
  refine pb_iload_n C dX1_isSheet_0 rfl (lv_at hl 0 rfl) ?_
  refine pb_ic C dX1_isSheet_1 ?_
  refine pb_bip C dX1_isSheet_2 (by decide) ?_
  refine pb_go_x (bc' := 0) (bs' := 0) (pb_runS (rest := []) C hG (met_X1_isBetween l x 0 7 hx (by decide) (by decide)) (lw_S q332 q333 q51 q334) hdX1_isBetween rfl hl.1 rfl (Nat.le_of_ble_eq_true rfl) ⟨(Nat.le_of_ble_eq_true rfl), (Nat.le_of_ble_eq_true rfl)⟩ dX1_isSheet_4) (by omega) (by omega) ?_
  exact pb_zret C dX1_isSheet_7 (pb_nar (decide (0 ≤ x ∧ x ≤ 7))) (⟨rfl, rfl⟩)

set_option maxHeartbeats 1000000 in
theorem met_X1_isPoint {w : pb_W} (l : Launch) {H : Heap} (x y : Int) (hx : -2147483648 ≤ x ∧ x ≤ 2147483647) (hy : -2147483648 ≤ y ∧ y ≤ 2147483647) : pb_M w l yX1_isPoint cX1_isPoint 2 (some .boolean) 1 (0) (0) [.int (iZ (x)), .int (iZ (y))] H (pb_qx (.int (iZ (bI (decide (0 ≤ x ∧ x ≤ 24) && decide (0 ≤ y ∧ y ≤ 24))))) H) := by
  refine pb_of (by decide +kernel) (Nat.le_of_ble_eq_true rfl) ?_
  intro p_ e_ s_ m_ ar_ bl_ me_ co_ ls C hh hG hl
  have hl : lv_has ls 2 [(0, .int (iZ (x))), (1, .int (iZ (y)))] := hl
  refine pb_iload_n C dX1_isPoint_0 rfl (lv_at hl 0 rfl) ?_
  refine pb_ic C dX1_isPoint_1 ?_
  refine pb_bip C dX1_isPoint_2 (by decide) ?_
  refine pb_go_x (bc' := 0) (bs' := 0) (pb_runS (rest := []) C hG (met_X1_isBetween l x 0 24 hx (by decide) (by decide)) (lw_S q332 q333 q51 q334) hdX1_isBetween rfl hl.1 rfl (Nat.le_of_ble_eq_true rfl) ⟨(Nat.le_of_ble_eq_true rfl), (Nat.le_of_ble_eq_true rfl)⟩ dX1_isPoint_4) (by omega) (by omega) ?_
  refine pb_ifB_eq C dX1_isPoint_7 (tgt := 24) (by decide) (fun c7_ => ?_) (fun c7_ => ?_)
  · have c7_ := of_decide_eq_false c7_
    refine pb_ic C dX1_isPoint_24 ?_
    exact pb_zret C dX1_isPoint_25 (by decide +kernel) (⟨by rw [show (decide (0 ≤ x ∧ x ≤ 24) && decide (0 ≤ y ∧ y ≤ 24)) = false from by rw [decide_eq_false c7_]; rfl]; rfl, rfl⟩)
  · have c7_ := of_decide_eq_true c7_
    refine pb_iload_n C dX1_isPoint_10 rfl (lv_at hl 1 rfl) ?_
    refine pb_ic C dX1_isPoint_11 ?_
    refine pb_bip C dX1_isPoint_12 (by decide) ?_
    refine pb_go_x (bc' := 0) (bs' := 0) (pb_runS (rest := []) C hG (met_X1_isBetween l y 0 24 hy (by decide) (by decide)) (lw_S q332 q333 q51 q334) hdX1_isBetween rfl hl.1 rfl (Nat.le_of_ble_eq_true rfl) ⟨(Nat.le_of_ble_eq_true rfl), (Nat.le_of_ble_eq_true rfl)⟩ dX1_isPoint_14) (by omega) (by omega) ?_
    refine pb_ifB_eq C dX1_isPoint_17 (tgt := 24) (by decide) (fun c17_ => ?_) (fun c17_ => ?_)
    · have c17_ := of_decide_eq_false c17_
      refine pb_ic C dX1_isPoint_24 ?_
      exact pb_zret C dX1_isPoint_25 (by decide +kernel) (⟨by rw [show (decide (0 ≤ x ∧ x ≤ 24) && decide (0 ≤ y ∧ y ≤ 24)) = false from by rw [decide_eq_false c17_, Bool.and_false]]; rfl, rfl⟩)
    · have c17_ := of_decide_eq_true c17_
      refine pb_ic C dX1_isPoint_20 ?_
      refine pb_goto C dX1_isPoint_21 (tgt := 25) (by decide) ?_
      exact pb_zret C dX1_isPoint_25 (by decide +kernel) (⟨by rw [show (decide (0 ≤ x ∧ x ≤ 24) && decide (0 ≤ y ∧ y ≤ 24)) = true from by rw [decide_eq_true c7_, decide_eq_true c17_]; rfl]; rfl, rfl⟩)

set_option maxHeartbeats 1000000 in
theorem met_X1_checkArgument {w : pb_W} (l : Launch) {H : Heap}  : pb_M w l yX1_checkArgument cX1_checkArgument 1 none 0 (0) (0) [.int (iZ (1))] H (pb_qn H) := by
  refine pb_of (by decide +kernel) (Nat.le_of_ble_eq_true rfl) ?_
  intro p_ e_ s_ m_ ar_ bl_ me_ co_ ls C hh hG hl
  have hl : lv_has ls 1 [(0, .int (iZ (1)))] := hl
  refine pb_iload_n C dX1_checkArgument_0 rfl (lv_at hl 0 rfl) ?_
  refine pb_if_ne C dX1_checkArgument_1 (x := 1) (tgt := 12) (by decide) (by omega) (fun c1_ => ?_) (fun c1_ => ?_)
  · exact pb_vret C dX1_checkArgument_12 (⟨rfl, rfl⟩)
  · exact absurd c1_ (by decide)

set_option maxHeartbeats 1000000 in
theorem met_X1_checkElement {w : pb_W} (l : Launch) {H : Heap}  : pb_M w l yX1_checkElement cX1_checkElement 1 none 0 (0) (0) [.int (iZ (1))] H (pb_qn H) := by
  refine pb_of (by decide +kernel) (Nat.le_of_ble_eq_true rfl) ?_
  intro p_ e_ s_ m_ ar_ bl_ me_ co_ ls C hh hG hl
  have hl : lv_has ls 1 [(0, .int (iZ (1)))] := hl
  refine pb_iload_n C dX1_checkElement_0 rfl (lv_at hl 0 rfl) ?_
  refine pb_if_ne C dX1_checkElement_1 (x := 1) (tgt := 12) (by decide) (by omega) (fun c1_ => ?_) (fun c1_ => ?_)
  · exact pb_vret C dX1_checkElement_12 (⟨rfl, rfl⟩)
  · exact absurd c1_ (by decide)

set_option maxHeartbeats 1000000 in
theorem met_X1_checkPath {w : pb_W} (l : Launch) {H : Heap} (b : Nat) : pb_M w l yX1_checkPath cX1_checkPath 2 none 0 (0) (0) [.ref (b), .int (iZ (1))] H (pb_qn H) := by
  refine pb_of (by decide +kernel) (Nat.le_of_ble_eq_true rfl) ?_
  intro p_ e_ s_ m_ ar_ bl_ me_ co_ ls C hh hG hl
  have hl : lv_has ls 2 [(0, .ref (b)), (1, .int (iZ (1)))] := hl
  refine pb_iload_n C dX1_checkPath_0 rfl (lv_at hl 1 rfl) ?_
  refine pb_if_ne C dX1_checkPath_1 (x := 1) (tgt := 12) (by decide) (by omega) (fun c1_ => ?_) (fun c1_ => ?_)
  · exact pb_vret C dX1_checkPath_12 (⟨rfl, rfl⟩)
  · exact absurd c1_ (by decide)

set_option maxHeartbeats 1000000 in
theorem met_X1_region {w : pb_W} (l : Launch) {H : Heap} (b sl : Nat) (pv : Value) (V : List Nat) (P : Nat → Prop) (G : Nat → Nat → Nat) (hS : Sq w H P b sl pv V G) (s : Nat) (hs : s < 8) : pb_M w l yX1_region cX1_region 2 (some (.object "PolygonBoard$Region")) 3 (0) (0) [.ref (b), .int (iZ (((s : Nat) : Int)))] H (pb_qx (.ref (nV V s)) H) := by
  refine pb_of (by decide +kernel) (Nat.le_of_ble_eq_true rfl) ?_
  intro p_ e_ s_ m_ ar_ bl_ me_ co_ ls C hh hG hl
  have hl : lv_has ls 2 [(0, .ref (b)), (1, .int (iZ (((s : Nat) : Int))))] := hl
  obtain ⟨hPb, hBo, hLr, hV8⟩ := id hS.1
  obtain ⟨fsl_, hLo⟩ := hLr.o
  obtain ⟨fsr_, hRo⟩ : ∃ fs, pb_R w H (nV V s) 1 fs := by
    obtain ⟨-, L9, hR9, -⟩ := hS.2 s hs
    exact hR9.o
  refine pb_iload_n C dX1_region_0 rfl (lv_at hl 1 rfl) ?_
  refine pb_go_x (bc' := 0) (bs' := 0) (pb_runS (rest := []) C hG (met_X1_isSheet l ((s : Nat) : Int) (by omega)) (lw_S q329 q330 q51 q331) hdX1_isSheet rfl hl.1 rfl (Nat.le_of_ble_eq_true rfl) ⟨(Nat.le_of_ble_eq_true rfl), (Nat.le_of_ble_eq_true rfl)⟩ dX1_region_1) (by omega) (by omega) ?_
  refine pb_ifB_ne C dX1_region_4 (tgt := 15) (by decide) (fun c4_ => ?_) (fun c4_ => ?_)
  · have c4_ := of_decide_eq_true c4_
    refine pb_aload_n C dX1_region_15 rfl (lv_at hl 0 rfl) ?_
    refine pb_get C in_X1 hBo (ci := 0) rfl 0 (by decide) q227 (fun _ h9 => h9) (v := .ref (sl)) rfl dX1_region_16 ?_
    refine pb_iload_n C dX1_region_19 rfl (lv_at hl 1 rfl) ?_
    refine pb_go_x (bc' := 0) (bs' := 0) (pb_runF (n := 1) (rest := []) C hG (x := ⟨"java/util/List", "get", "(I)Ljava/lang/Object;"⟩) (met_J2_get l sl P V hLr s (by omega)) hLo (ci := 15) rfl (by decide) q357 q360 q362 q54 q364 (by decide +kernel) rfl hl.1 rfl (Nat.le_of_ble_eq_true rfl) ⟨(Nat.le_of_ble_eq_true rfl), (Nat.le_of_ble_eq_true rfl)⟩ dX1_region_20) (by omega) (by omega) ?_
    refine pb_cast C hRo (ci := 1) rfl q130 dX1_region_25 ?_
    exact pb_aret C (Or.inl ⟨_, rfl⟩) dX1_region_28 (Or.inr ⟨_, rfl⟩) (⟨rfl, rfl⟩)
  · have c4_ := of_decide_eq_false c4_
    omega

set_option maxHeartbeats 1000000 in
theorem met_X1_regionFor {w : pb_W} (l : Launch) {H : Heap} (b sl : Nat) (pv : Value) (V : List Nat) (P : Nat → Prop) (G : Nat → Nat → Nat) (hS : Sq w H P b sl pv V G) (s : Nat) (hs : s < 8) (t : Nat) (ht : t < 8) : pb_M w l yX1_regionFor cX1_regionFor 3 (some (.object "PolygonBoard$Region")) 4 (0) (0) [.ref (b), .int (iZ (((s : Nat) : Int))), .int (iZ (((t : Nat) : Int)))] H (pb_qx (.ref (nV V s)) H) := by
  refine pb_of (by decide +kernel) (Nat.le_of_ble_eq_true rfl) ?_
  intro p_ e_ s_ m_ ar_ bl_ me_ co_ ls C hh hG hl
  have hl : lv_has ls 3 [(0, .ref (b)), (1, .int (iZ (((s : Nat) : Int)))), (2, .int (iZ (((t : Nat) : Int))))] := hl
  obtain ⟨hPb, hBo, hLr, hV8⟩ := id hS.1
  obtain ⟨fsl_, hLo⟩ := hLr.o
  obtain ⟨fsr_, hRo⟩ : ∃ fs, pb_R w H (nV V s) 1 fs := by
    obtain ⟨-, L9, hR9, -⟩ := hS.2 s hs
    exact hR9.o
  refine pb_aload_n C dX1_regionFor_0 rfl (lv_at hl 0 rfl) ?_
  refine pb_iload_n C dX1_regionFor_1 rfl (lv_at hl 2 rfl) ?_
  refine pb_go_x (bc' := 0) (bs' := 0) (pb_runV (rest := []) C hG (met_X1_region l b sl pv V P G hS t ht) hBo (ci := 0) rfl (lw_V q325 q327 qs4 q51 q328) ⟨rfl, hdX1_region⟩ rfl hl.1 rfl (Nat.le_of_ble_eq_true rfl) ⟨(Nat.le_of_ble_eq_true rfl), (Nat.le_of_ble_eq_true rfl)⟩ dX1_regionFor_2) (by omega) (by omega) ?_
  refine pb_pop C dX1_regionFor_5 rfl ?_
  refine pb_aload_n C dX1_regionFor_6 rfl (lv_at hl 0 rfl) ?_
  refine pb_iload_n C dX1_regionFor_7 rfl (lv_at hl 1 rfl) ?_
  refine pb_go_x (bc' := 0) (bs' := 0) (pb_runV (rest := []) C hG (met_X1_region l b sl pv V P G hS s hs) hBo (ci := 0) rfl (lw_V q325 q327 qs4 q51 q328) ⟨rfl, hdX1_region⟩ rfl hl.1 rfl (Nat.le_of_ble_eq_true rfl) ⟨(Nat.le_of_ble_eq_true rfl), (Nat.le_of_ble_eq_true rfl)⟩ dX1_regionFor_8) (by omega) (by omega) ?_
  exact pb_aret C (Or.inl ⟨_, rfl⟩) dX1_regionFor_11 (Or.inr ⟨_, rfl⟩) (⟨rfl, rfl⟩)

