set_option maxRecDepth 100000
set_option maxHeartbeats 1000000 in
theorem met_X10_init {w : pb_W} (l : Launch) {H0 : Heap} (c : Nat) (l_ lo_ r_ hi_ : Int) (hz : w.2.2.2 ≤ c) (hO : pb_O w H0 c 9 [.int (iZ (0)), .int (iZ (0)), .int (iZ (0)), .int (iZ (0)), .null]) : pb_M w l yX10_init cX10_init 5 none 1 (0) (0) [.ref (c), .int (iZ (l_)), .int (iZ (lo_)), .int (iZ (r_)), .int (iZ (hi_))] H0 (pb_qv (fun H1 => pb_O w H1 c 9 (rF (l_, lo_, r_, hi_) c) ∧ pb_F (fun q => q ≠ c) H0 H1)) := by
  refine pb_of (by decide +kernel) (Nat.le_of_ble_eq_true rfl) ?_
  intro p_ e_ s_ m_ ar_ bl_ me_ co_ ls C hh hG hl
  have hl : lv_has ls 5 [(0, .ref (c)), (1, .int (iZ (l_))), (2, .int (iZ (lo_))), (3, .int (iZ (r_))), (4, .int (iZ (hi_)))] := hl
  have hFF : pb_F (fun q => q ≠ c) H0 H0 := pb_F.rf
  refine pb_aload_n C dX10_init_0 rfl (lv_at hl 0 rfl) ?_
  refine pb_objInit C q626 q99 q100 hl.1 ⟨(Nat.le_of_ble_eq_true rfl), (Nat.le_of_ble_eq_true rfl)⟩ dX10_init_1 ?_
  refine pb_aload_n C dX10_init_4 rfl (lv_at hl 0 rfl) ?_
  refine pb_aload_n C dX10_init_5 rfl (lv_at hl 0 rfl) ?_
  refine pb_put C in_X10 tyX10 tyX10_ok nmX10 hO (ci := 9) rfl 4 (by decide) q635 (fun _ h9 => h9) rfl (v := .ref (c)) rfl rfl (Nat.le_of_ble_eq_true rfl) (by omega) dX10_init_6 fun H1_ hu_ hO => ?_
  have hO : pb_O w H1_ (c) 9 [.int (iZ (0)), .int (iZ (0)), .int (iZ (0)), .int (iZ (0)), .ref (c)] := hO
  have hG := hG.kept (hu_.z (by omega))
  have hs_H1_ := hu_.1
  have hFF := hFF.tr (hu_.f)
  refine pb_aload_n C dX10_init_9 rfl (lv_at hl 0 rfl) ?_
  refine pb_iload_n C dX10_init_10 rfl (lv_at hl 1 rfl) ?_
  refine pb_putF C in_X10 tyX10 tyX10_ok nmX10 hO (ci := 9) rfl 0 (by decide) q627 (fun _ h9 => h9) rfl rfl rfl (v := .int (iZ (l_))) rfl rfl (Nat.le_of_ble_eq_true rfl) (by omega) dX10_init_11 fun H2_ hu_ hO => ?_
  have hO : pb_O w H2_ (c) 9 [.int (iZ (l_)), .int (iZ (0)), .int (iZ (0)), .int (iZ (0)), .ref (c)] := hO
  have hG := hG.kept (hu_.z (by omega))
  have hs_H2_ := hu_.1
  have hFF := hFF.tr (hu_.f)
  refine pb_aload_n C dX10_init_14 rfl (lv_at hl 0 rfl) ?_
  refine pb_iload_n C dX10_init_15 rfl (lv_at hl 2 rfl) ?_
  refine pb_putF C in_X10 tyX10 tyX10_ok nmX10 hO (ci := 9) rfl 1 (by decide) q629 (fun _ h9 => h9) rfl rfl rfl (v := .int (iZ (lo_))) rfl rfl (Nat.le_of_ble_eq_true rfl) (by omega) dX10_init_16 fun H3_ hu_ hO => ?_
  have hO : pb_O w H3_ (c) 9 [.int (iZ (l_)), .int (iZ (lo_)), .int (iZ (0)), .int (iZ (0)), .ref (c)] := hO
  have hG := hG.kept (hu_.z (by omega))
  have hs_H3_ := hu_.1
  have hFF := hFF.tr (hu_.f)
  refine pb_aload_n C dX10_init_19 rfl (lv_at hl 0 rfl) ?_
  refine pb_iload_n C dX10_init_20 rfl (lv_at hl 3 rfl) ?_
  refine pb_putF C in_X10 tyX10 tyX10_ok nmX10 hO (ci := 9) rfl 2 (by decide) q631 (fun _ h9 => h9) rfl rfl rfl (v := .int (iZ (r_))) rfl rfl (Nat.le_of_ble_eq_true rfl) (by omega) dX10_init_21 fun H4_ hu_ hO => ?_
  have hO : pb_O w H4_ (c) 9 [.int (iZ (l_)), .int (iZ (lo_)), .int (iZ (r_)), .int (iZ (0)), .ref (c)] := hO
  have hG := hG.kept (hu_.z (by omega))
  have hs_H4_ := hu_.1
  have hFF := hFF.tr (hu_.f)
  refine pb_aload_n C dX10_init_24 rfl (lv_at hl 0 rfl) ?_
  refine pb_iload C dX10_init_25 (lv_at hl 4 rfl) ?_
  refine pb_putF C in_X10 tyX10 tyX10_ok nmX10 hO (ci := 9) rfl 3 (by decide) q633 (fun _ h9 => h9) rfl rfl rfl (v := .int (iZ (hi_))) rfl rfl (Nat.le_of_ble_eq_true rfl) (by omega) dX10_init_27 fun H5_ hu_ hO => ?_
  have hO : pb_O w H5_ (c) 9 [.int (iZ (l_)), .int (iZ (lo_)), .int (iZ (r_)), .int (iZ (hi_)), .ref (c)] := hO
  have hG := hG.kept (hu_.z (by omega))
  have hs_H5_ := hu_.1
  have hFF := hFF.tr (hu_.f)
  exact pb_vret C dX10_init_30 (⟨rfl, hO, hFF⟩)

set_option maxHeartbeats 1000000 in
theorem met_X10_isUnder {w : pb_W} (l : Launch) {H : Heap} (a b pa pb : Nat) (ra rb : Rct) (hA : pb_R w H a 9 (rF ra pa)) (hB : pb_R w H b 9 (rF rb pb)) (hra : rgR ra) (hrb : rgR rb) : pb_M w l yX10_isUnder cX10_isUnder 2 (some .boolean) 0 (0) (0) [.ref (a), .ref (b)] H (pb_qx (.int (iZ (bI (unR ra rb)))) H) := by
  refine pb_of (by decide +kernel) (Nat.le_of_ble_eq_true rfl) ?_
  intro p_ e_ s_ m_ ar_ bl_ me_ co_ ls C hh hG hl
  have hl : lv_has ls 2 [(0, .ref (a)), (1, .ref (b))] := hl
  obtain ⟨ra1, ra2, ra3, ra4⟩ := hra
  obtain ⟨rb1, rb2, rb3, rb4⟩ := hrb
  refine pb_aload_n C dX10_isUnder_0 rfl (lv_at hl 0 rfl) ?_
  refine pb_get C in_X10 hA (ci := 9) rfl 3 (by decide) q633 (fun _ h9 => h9) (v := .int (iZ (ra.2.2.2))) rfl dX10_isUnder_1 ?_
  refine pb_aload_n C dX10_isUnder_4 rfl (lv_at hl 1 rfl) ?_
  refine pb_get C in_X10 hB (ci := 9) rfl 1 (by decide) q629 (fun _ h9 => h9) (v := .int (iZ (rb.2.1))) rfl dX10_isUnder_5 ?_
  refine pb_icmp_ne C dX10_isUnder_8 (x := ra.2.2.2) (y := rb.2.1) (tgt := 37) (by decide) (by omega) (by omega) (fun c8_ => ?_) (fun c8_ => ?_)
  · refine pb_ic C dX10_isUnder_37 ?_
    exact pb_zret C dX10_isUnder_38 (by decide +kernel) (⟨by rw [bI_f (show unR ra rb = false from decide_eq_false (by omega))], rfl⟩)
  · refine pb_aload_n C dX10_isUnder_11 rfl (lv_at hl 0 rfl) ?_
    refine pb_get C in_X10 hA (ci := 9) rfl 0 (by decide) q627 (fun _ h9 => h9) (v := .int (iZ (ra.1))) rfl dX10_isUnder_12 ?_
    refine pb_aload_n C dX10_isUnder_15 rfl (lv_at hl 1 rfl) ?_
    refine pb_get C in_X10 hB (ci := 9) rfl 2 (by decide) q631 (fun _ h9 => h9) (v := .int (iZ (rb.2.2.1))) rfl dX10_isUnder_16 ?_
    refine pb_icmp_ge C dX10_isUnder_19 (x := ra.1) (y := rb.2.2.1) (tgt := 37) (by decide) (by omega) (by omega) (fun c19_ => ?_) (fun c19_ => ?_)
    · refine pb_ic C dX10_isUnder_37 ?_
      exact pb_zret C dX10_isUnder_38 (by decide +kernel) (⟨by rw [bI_f (show unR ra rb = false from decide_eq_false (by omega))], rfl⟩)
    · refine pb_aload_n C dX10_isUnder_22 rfl (lv_at hl 1 rfl) ?_
      refine pb_get C in_X10 hB (ci := 9) rfl 0 (by decide) q627 (fun _ h9 => h9) (v := .int (iZ (rb.1))) rfl dX10_isUnder_23 ?_
      refine pb_aload_n C dX10_isUnder_26 rfl (lv_at hl 0 rfl) ?_
      refine pb_get C in_X10 hA (ci := 9) rfl 2 (by decide) q631 (fun _ h9 => h9) (v := .int (iZ (ra.2.2.1))) rfl dX10_isUnder_27 ?_
      refine pb_icmp_ge C dX10_isUnder_30 (x := rb.1) (y := ra.2.2.1) (tgt := 37) (by decide) (by omega) (by omega) (fun c30_ => ?_) (fun c30_ => ?_)
      · refine pb_ic C dX10_isUnder_37 ?_
        exact pb_zret C dX10_isUnder_38 (by decide +kernel) (⟨by rw [bI_f (show unR ra rb = false from decide_eq_false (by omega))], rfl⟩)
      · refine pb_ic C dX10_isUnder_33 ?_
        refine pb_goto C dX10_isUnder_34 (tgt := 38) (by decide) ?_
        exact pb_zret C dX10_isUnder_38 (by decide +kernel) (⟨by rw [bI_t (show unR ra rb = true from decide_eq_true (by omega))], rfl⟩)

set_option maxHeartbeats 1000000 in
theorem met_X10_contains {w : pb_W} (l : Launch) {H : Heap} (a pa : Nat) (ra : Rct) (hA : pb_R w H a 9 (rF ra pa)) (hra : rgR ra) (x y : Int) (hx : -2000 ≤ x ∧ x ≤ 2000) (hy : -2000 ≤ y ∧ y ≤ 2000) : pb_M w l yX10_contains cX10_contains 3 (some .boolean) 1 (0) (0) [.ref (a), .int (iZ (x)), .int (iZ (y))] H (pb_qx (.int (iZ (bI (coR ra x y)))) H) := by
  refine pb_of (by decide +kernel) (Nat.le_of_ble_eq_true rfl) ?_
  intro p_ e_ s_ m_ ar_ bl_ me_ co_ ls C hh hG hl
  have hl : lv_has ls 3 [(0, .ref (a)), (1, .int (iZ (x))), (2, .int (iZ (y)))] := hl
  obtain ⟨ra1, ra2, ra3, ra4⟩ := hra
  refine pb_iload_n C dX10_contains_0 rfl (lv_at hl 1 rfl) ?_
  refine pb_aload_n C dX10_contains_1 rfl (lv_at hl 0 rfl) ?_
  refine pb_get C in_X10 hA (ci := 9) rfl 0 (by decide) q627 (fun _ h9 => h9) (v := .int (iZ (ra.1))) rfl dX10_contains_2 ?_
  refine pb_aload_n C dX10_contains_5 rfl (lv_at hl 0 rfl) ?_
  refine pb_get C in_X10 hA (ci := 9) rfl 2 (by decide) q631 (fun _ h9 => h9) (v := .int (iZ (ra.2.2.1))) rfl dX10_contains_6 ?_
  refine pb_ic C dX10_contains_9 ?_
  refine pb_isub C dX10_contains_10 ?_
  refine pb_go_x (bc' := 0) (bs' := 0) (pb_runSN (rest := []) C hG (met_X1_isBetween l x ra.1 ((ra.2.2.1 - 1)) (by omega) (by omega) (by omega)) q1081 q333 q51 q334 hdX1_isBetween rfl hl.1 rfl (Nat.le_of_ble_eq_true rfl) ⟨(Nat.le_of_ble_eq_true rfl), (Nat.le_of_ble_eq_true rfl)⟩ dX10_contains_11) (by omega) (by omega) ?_
  refine pb_ifB_eq C dX10_contains_14 (tgt := 38) (by decide) (fun c14_ => ?_) (fun c14_ => ?_)
  · have c14_ := of_decide_eq_false c14_
    refine pb_ic C dX10_contains_38 ?_
    exact pb_zret C dX10_contains_39 (by decide +kernel) (⟨by rw [show coR ra x y = false from by unfold coR; rw [decide_eq_false c14_]; rfl]; rfl, rfl⟩)
  · have c14_ := of_decide_eq_true c14_
    refine pb_iload_n C dX10_contains_17 rfl (lv_at hl 2 rfl) ?_
    refine pb_aload_n C dX10_contains_18 rfl (lv_at hl 0 rfl) ?_
    refine pb_get C in_X10 hA (ci := 9) rfl 1 (by decide) q629 (fun _ h9 => h9) (v := .int (iZ (ra.2.1))) rfl dX10_contains_19 ?_
    refine pb_aload_n C dX10_contains_22 rfl (lv_at hl 0 rfl) ?_
    refine pb_get C in_X10 hA (ci := 9) rfl 3 (by decide) q633 (fun _ h9 => h9) (v := .int (iZ (ra.2.2.2))) rfl dX10_contains_23 ?_
    refine pb_ic C dX10_contains_26 ?_
    refine pb_isub C dX10_contains_27 ?_
    refine pb_go_x (bc' := 0) (bs' := 0) (pb_runSN (rest := []) C hG (met_X1_isBetween l y ra.2.1 ((ra.2.2.2 - 1)) (by omega) (by omega) (by omega)) q1081 q333 q51 q334 hdX1_isBetween rfl hl.1 rfl (Nat.le_of_ble_eq_true rfl) ⟨(Nat.le_of_ble_eq_true rfl), (Nat.le_of_ble_eq_true rfl)⟩ dX10_contains_28) (by omega) (by omega) ?_
    refine pb_ifB_eq C dX10_contains_31 (tgt := 38) (by decide) (fun c31_ => ?_) (fun c31_ => ?_)
    · have c31_ := of_decide_eq_false c31_
      refine pb_ic C dX10_contains_38 ?_
      exact pb_zret C dX10_contains_39 (by decide +kernel) (⟨by rw [show coR ra x y = false from by unfold coR; rw [decide_eq_true c14_, decide_eq_false c31_]; rfl]; rfl, rfl⟩)
    · have c31_ := of_decide_eq_true c31_
      refine pb_ic C dX10_contains_34 ?_
      refine pb_goto C dX10_contains_35 (tgt := 39) (by decide) ?_
      exact pb_zret C dX10_contains_39 (by decide +kernel) (⟨by rw [show coR ra x y = true from by unfold coR; rw [decide_eq_true c14_, decide_eq_true c31_]; rfl]; rfl, rfl⟩)

set_option maxHeartbeats 1000000 in
theorem met_X10_root_ {w : pb_W} (l : Launch) {H : Heap} (V : List Nat) (RR : List Rct) (P ro : Nat → Nat) (hRO : RO w H V RR P) (hds : dsV V) (hl9 : V.length = RR.length) (hFO : FO_ RR.length P ro) (i : Nat) (hi : i < RR.length) : pb_M w l yX10_root cX10_root 2 (some (.object "PolygonBoard$Rectangle")) 0 (0) (0) [.ref ((nV V i))] H (pb_qx (.ref (nV V (ro i))) H) := by
  refine pb_of (by decide +kernel) (Nat.le_of_ble_eq_true rfl) ?_
  intro p_ e_ s_ m_ ar_ bl_ me_ co_ ls C hh hG hl
  have hl : lv_has ls 2 [(0, .ref ((nV V i)))] := hl
  obtain ⟨⟨dep, hdep⟩, hFo⟩ := hFO
  have L2 : ∀ (n_ : Nat) (j : Nat), dep j = n_ → (j < RR.length) → (ro j = ro i) → ∀ (ls : Array Slot), lv_has ls 2 [(1, .ref ((nV V j)))] → pb_V w.2.2.2 p_ l e_ (pb_rm 0 (0) (0)) s_ m_ ar_ bl_ me_ co_ H (0) (0) (pb_E w bl_ ar_ s_ (0) (0) (pb_qx (.ref (nV V (ro i))) H)) (F0 m_ 2 ls []) := by
    intro n_
    induction n_ using Nat.strongRecOn with
    | _ n_ ih2 =>
    intro j hm_ hj hrj ls hl
    have hOj := (hRO j hj).1.r
    have hPj := (hFo j hj).1
    refine pb_aload_n C dX10_root_2 rfl (lv_at hl 0 rfl) ?_
    refine pb_get C in_X10 hOj (ci := 9) rfl 4 (by decide) q635 (fun _ h9 => h9) (v := .ref ((nV V (P j)))) rfl dX10_root_3 ?_
    refine pb_aload_n C dX10_root_6 rfl (lv_at hl 0 rfl) ?_
    refine pb_acmp_eq C dX10_root_7 (tgt := 18) (by decide) (fun c7_ => ?_) (fun c7_ => ?_)
    · refine pb_aload_n C dX10_root_18 rfl (lv_at hl 0 rfl) ?_
      exact pb_aret C (Or.inl ⟨_, rfl⟩) dX10_root_19 (Or.inr ⟨_, rfl⟩) (⟨by rw [← hrj, (hFo j hj).2.2.1 (hds.inj (by omega) (by omega) c7_)], rfl⟩)
    · have hne9 : P j ≠ j := fun e9 => c7_ (by rw [e9])
      have hdj := hdep j hj hne9
      refine pb_aload_n C dX10_root_10 rfl (lv_at hl 0 rfl) ?_
      refine pb_get C in_X10 hOj (ci := 9) rfl 4 (by decide) q635 (fun _ h9 => h9) (v := .ref ((nV V (P j)))) rfl dX10_root_11 ?_
      refine pb_astore_n C dX10_root_14 rfl hl (by decide) rfl fun ls hl => ?_
      have hl : lv_has ls 2 [(1, .ref ((nV V (P j))))] := hl
      refine pb_goto C dX10_root_15 (tgt := 2) (by decide) ?_
      exact pb_V.mono (by omega) (by omega) (ih2 _ (by omega) (P j) rfl (hFo j hj).1 ((hFo j hj).2.1.trans hrj) ls (lv_sub hl [0] rfl))
  refine pb_aload_n C dX10_root_0 rfl (lv_at hl 0 rfl) ?_
  refine pb_astore_n C dX10_root_1 rfl hl (by decide) rfl fun ls hl => ?_
  have hl : lv_has ls 2 [(1, .ref ((nV V i))), (0, .ref ((nV V i)))] := hl
  exact pb_V.mono (by omega) (by omega) (L2 _ i rfl hi rfl ls (lv_sub hl [0] rfl))

theorem met_X10_root {w : pb_W} (l : Launch) {H : Heap} (V : List Nat) (RR : List Rct) (P ro : Nat → Nat) (hRO : RO w H V RR P) (hds : dsV V) (hl9 : V.length = RR.length) (hFO : FO_ RR.length P ro) (i a : Nat) (hi : i < RR.length) (ha : a = nV V i) : pb_M w l yX10_root cX10_root 2 (some (.object "PolygonBoard$Rectangle")) 0 (0) (0) [.ref a] H (pb_qx (.ref (nV V (ro i))) H) := by
  subst ha
  exact met_X10_root_ l V RR P ro hRO hds hl9 hFO i hi

set_option maxHeartbeats 1000000 in
theorem met_X7_init_X13 {w : pb_W} (l : Launch) {H0 : Heap} (c : Nat) : pb_M w l yX7_init cX7_init 1 none 1 (0) (0) [.ref (c)] H0 (pb_qv (fun H1 => H1 = H0)) := by
  refine pb_of (by decide +kernel) (Nat.le_of_ble_eq_true rfl) ?_
  intro p_ e_ s_ m_ ar_ bl_ me_ co_ ls C hh hG hl
  have hl : lv_has ls 1 [(0, .ref (c))] := hl
  refine pb_aload_n C dX7_init_0 rfl (lv_at hl 0 rfl) ?_
  refine pb_objInit C q499 q99 q100 hl.1 ⟨(Nat.le_of_ble_eq_true rfl), (Nat.le_of_ble_eq_true rfl)⟩ dX7_init_1 ?_
  exact pb_vret C dX7_init_4 (⟨rfl, rfl⟩)

set_option maxHeartbeats 1000000 in
theorem met_X13_init {w : pb_W} (l : Launch) {H0 : Heap} (z c : Nat) (hz : w.2.2.2 ≤ z) (hzc : z ≤ c) (hO : pb_O w H0 c 8 [.int (iZ 0), .null, .int (iZ 0)]) : pb_M w l yX13_init cX13_init 1 none 4 (1) (3) [.ref (c)] H0 (pb_qv (fun H1 => Pw w H1 z c ([], fun _ => 0, 0) ∧ pb_F (fun q => q < H0.size ∧ q ≠ c) H0 H1)) := by
  refine pb_of (by decide +kernel) (Nat.le_of_ble_eq_true rfl) ?_
  intro p_ e_ s_ m_ ar_ bl_ me_ co_ ls C hh hG hl
  have hl : lv_has ls 1 [(0, .ref (c))] := hl
  have hlt := hO.lt
  have hFF : pb_F (fun q => q < H0.size ∧ q ≠ c) H0 H0 := pb_F.rf
  refine pb_aload_n C dX13_init_0 rfl (lv_at hl 0 rfl) ?_
  refine pb_go_v (bc' := 1) (bs' := 3) (pb_runIN (rest := []) C hG (met_X7_init_X13 l c) q1059 q497 q74 q498 rfl hdX7_init rfl hl.1 rfl (Nat.le_of_ble_eq_true rfl) ⟨(Nat.le_of_ble_eq_true rfl), (Nat.le_of_ble_eq_true rfl)⟩ dX13_init_1) (by omega) (by omega) (fun H_ hp_ => ?_)
  have hp8 := hp_.symm
  subst hp8
  refine pb_aload_n C dX13_init_4 rfl (lv_at hl 0 rfl) ?_
  refine pb_newE C in_J2 tyJ2 tyJ2_ok (ci := 15) rfl q1060 q102 q54 (fs := [.int (iZ (0)), .null, .int (iZ (0))]) (by decide) (bc' := 0) (bs' := 0) (by omega) (by omega) dX13_init_5 fun a1_ H1_ ha_ hn_ hN1_ => ?_
  have hs1_ : H1_.size = H0.size + 1 := hn_.1
  have hG := hG.kept (hn_.f.mono (fun _ _ _ => trivial))
  have hO := hO.kept (hn_.2 _ hO.lt)
  have hFF := hFF.tr (hn_.f.mono (fun _ _ _ => trivial))
  obtain rfl : a1_ = H0.size := by omega
  skip
  have hN := hN1_
  refine pb_dup C dX13_init_8 rfl ?_
  refine pb_go_v (bc' := 0) (bs' := 0) (pb_runI (rest := [.ref (H0.size), .ref (c)]) C hG (met_J2_init l z H0.size (by omega) (by omega) hN) q1061 q104 q54 q105 rfl hdJ2_init rfl hl.1 rfl (Nat.le_of_ble_eq_true rfl) ⟨(Nat.le_of_ble_eq_true rfl), (Nat.le_of_ble_eq_true rfl)⟩ dX13_init_9) (by omega) (by omega) (fun H_ hp_ => ?_)
  obtain ⟨hLb, hF1⟩ := hp_
  have hG := hG.kept (hF1.mono (fun q _ (hq : q < w.2.2.2) => show q ≠ _ from by omega))
  have hO := hO.kept (hF1.2 _ hO.lt (by omega))
  have hFF := hFF.tr (hF1.mono (fun q _ (hq : q < H0.size ∧ q ≠ c) => show q ≠ _ from by omega))
  have h0T : pb_Ty w H_ (w.2.2.1 0) 23 := hG.2.2.2.1.ty
  have hOty := hO.r.ty.1
  have hLb9 := hLb
  refine pb_putF C in_X13 tyX13 tyX13_ok nmX13 hO (ci := 8) rfl 1 (by decide) q1062 (fun _ h9 => h9) rfl rfl rfl (v := .ref (H0.size)) rfl rfl (Nat.le_of_ble_eq_true rfl) (by omega) dX13_init_12 fun H2_ hu_ hO => ?_
  have hO : pb_O w H2_ (c) 8 [.int (iZ (0)), .ref (H0.size), .int (iZ (0))] := hO
  have hG := hG.kept (hu_.z (by omega))
  have hs_H2_ := hu_.1
  have hFF := hFF.tr (hu_.f.mono (fun q _ hq => hq.2))
  exact pb_vret C dX13_init_15 (⟨rfl, ⟨H0.size, w.2.2.1 0, [], fun _ => 0, hzc, hO, hLb9.up C.inj h0T hOty (by decide) hu_, rfl, fun i hi => absurd hi (Nat.not_lt_zero _), fun i j hi => absurd hi (Nat.not_lt_zero _), ⟨⟨fun _ => 0, fun i hi => absurd hi (Nat.not_lt_zero _)⟩, fun i hi => absurd hi (Nat.not_lt_zero _)⟩, fun i hi => absurd hi (Nat.not_lt_zero _)⟩, hFF⟩)

set_option maxHeartbeats 1000000 in
theorem met_X7_visit_X13 {w : pb_W} (l : Launch) {H0 : Heap} (c t : Nat) (v0 v2 l_ lo_ r_ hi_ : Int) (hz : w.2.2.2 ≤ c) (hO : pb_O w H0 c 8 [.int (iZ v0), .ref t, .int (iZ v2)]) : pb_M w l yX7_visit cX7_visit 5 none 0 (0) (0) [.ref (c), .int (iZ (l_)), .int (iZ (lo_)), .int (iZ (r_)), .int (iZ (hi_))] H0 (pb_qv (fun H1 => pb_O w H1 c 8 [.int (iZ (v0 + 1)), .ref t, .int (iZ v2)] ∧ pb_F (fun q => q ≠ c) H0 H1)) := by
  refine pb_of (by decide +kernel) (Nat.le_of_ble_eq_true rfl) ?_
  intro p_ e_ s_ m_ ar_ bl_ me_ co_ ls C hh hG hl
  have hl : lv_has ls 5 [(0, .ref (c)), (1, .int (iZ (l_))), (2, .int (iZ (lo_))), (3, .int (iZ (r_))), (4, .int (iZ (hi_)))] := hl
  have hFF : pb_F (fun q => q ≠ c) H0 H0 := pb_F.rf
  refine pb_aload_n C dX7_visit_0 rfl (lv_at hl 0 rfl) ?_
  refine pb_dup C dX7_visit_1 rfl ?_
  refine pb_get C in_X13 hO.r (ci := 8) rfl 0 (by decide) q502 (fun _ h9 => h9) (v := .int (iZ (v0))) rfl dX7_visit_2 ?_
  refine pb_ic C dX7_visit_5 ?_
  refine pb_iadd C dX7_visit_6 ?_
  refine pb_put C in_X13 tyX13 tyX13_ok nmX13 hO (ci := 8) rfl 0 (by decide) q502 (fun _ h9 => h9) rfl (v := .int (iZ ((v0 + 1)))) rfl rfl (Nat.le_of_ble_eq_true rfl) (by omega) dX7_visit_7 fun H1_ hu_ hO => ?_
  have hO : pb_O w H1_ (c) 8 [.int (iZ ((v0 + 1))), .ref (t), .int (iZ (v2))] := hO
  have hG := hG.kept (hu_.z (by omega))
  have hs_H1_ := hu_.1
  have hFF := hFF.tr (hu_.f)
  exact pb_vret C dX7_visit_10 (⟨rfl, hO, hFF⟩)

set_option maxHeartbeats 1000000 in
theorem met_X13_visit {w : pb_W} (l : Launch) {H0 : Heap} (z c : Nat) (s : pSt) (l_ lo_ r_ hi_ : Int) (hl9 : -1000 ≤ l_ ∧ l_ ≤ 1000) (hlo9 : -1000 ≤ lo_ ∧ lo_ ≤ 1000) (hr9 : -1000 ≤ r_ ∧ r_ ≤ 1000) (hhi9 : -1000 ≤ hi_ ∧ hi_ ≤ 1000) (hz : w.2.2.2 ≤ z) (hP : Pw w H0 z c s) (hn : s.1.length < 1800) : pb_M w l yX13_visit cX13_visit 8 none 7 (2 + (lC (s.1.length + 1) - lC s.1.length)) (9 + (lS (s.1.length + 1) - lS s.1.length)) [.ref (c), .int (iZ (l_)), .int (iZ (lo_)), .int (iZ (r_)), .int (iZ (hi_))] H0 (pb_qv (fun H1 => Pw w H1 z c (paS s l_ lo_ r_ hi_) ∧ pb_F (fP w H0 z) H0 H1)) := by
  refine pb_of (by decide +kernel) (Nat.le_of_ble_eq_true rfl) ?_
  intro p_ e_ s_ m_ ar_ bl_ me_ co_ ls C hh hG hl
  have hl : lv_has ls 8 [(0, .ref (c)), (1, .int (iZ (l_))), (2, .int (iZ (lo_))), (3, .int (iZ (r_))), (4, .int (iZ (hi_)))] := hl
  obtain ⟨t, e, V, P, hzc, hO, hLb, hVn, hRO, hds, hFO, hzV⟩ := id hP
  have hFr : pb_F (fP w H0 z) H0 H0 := pb_F.rf
  have hz0 := hG.1
  have hV0 : ∀ i, i < V.length → nV V i < H0.size := fun i hi => (hRO i (by omega)).1.lt
  have hzl : z ≤ H0.size := by have := hO.lt; omega
  have helt : e < H0.size := (hLb.ty hG.2.2.2.1.ty).lt
  have htlt := hLb.2.1.lt
  have hclt9 := hO.lt
  have L44 : ∀ (n_ : Nat) (k it b : Nat) (p9 : Int) (P9 ro9 : Nat → Nat) (H : Heap), V.length - k = n_ → (pb_G w s_ H) → (k ≤ V.length) → (H0.size ≤ it) → (z ≤ b) → (H0.size ≤ b) → (viK s.1 (l_, lo_, r_, hi_) s.2.1 s.2.2 k = (ro9, p9)) → (pb_O w H c 8 [.int (iZ ((((s.1.length : Nat) : Int) + 1))), .ref (t), .int (iZ (p9))]) → (Lb w H z t e V) → (RO w H (V ++ [b]) (s.1 ++ [(l_, lo_, r_, hi_)]) P9) → (dsV (V ++ [b])) → (FO_ (s.1.length + 1) P9 ro9) → (It w H it t k V.length) → (pb_F (fP w H0 z) H0 H) → ∀ (ls : Array Slot), lv_has ls 8 [(0, .ref (c)), (5, .ref (b)), (6, .ref (it))] → pb_V w.2.2.2 p_ l e_ (pb_rm 7 (2 + (lC (s.1.length + 1) - lC s.1.length)) (9 + (lS (s.1.length + 1) - lS s.1.length))) s_ m_ ar_ bl_ me_ co_ H (lC (s.1.length + 1) - lC s.1.length) (lS (s.1.length + 1) - lS s.1.length) (pb_E w bl_ ar_ s_ (2 + (lC (s.1.length + 1) - lC s.1.length)) (9 + (lS (s.1.length + 1) - lS s.1.length)) (pb_qv (fun H1 => Pw w H1 z c (paS s l_ lo_ r_ hi_) ∧ pb_F (fP w H0 z) H0 H1))) (F0 m_ 44 ls []) := by
    intro n_
    induction n_ using Nat.strongRecOn with
    | _ n_ ih44 =>
    intro k it b p9 P9 ro9 H hm_ hG hk hit hbz hb0 hv hO hLb hRO hds hFO hI hFr ls hl
    obtain ⟨fsI_, hIo⟩ := hI.o
    have hIT := hI.ty
    have hcT := hO.r.ty.1
    have h0T : pb_Ty w _ (w.2.2.1 0) 23 := hG.2.2.2.1.ty
    have hl9 : (V ++ [b]).length = (s.1 ++ [(l_, lo_, r_, hi_)]).length := by rw [List.length_append, List.length_append, hVn]; rfl
    have hln : (s.1 ++ [(l_, lo_, r_, hi_)]).length = s.1.length + 1 := by rw [List.length_append]; rfl
    rw [← hln] at hFO
    refine pb_aload C dX13_visit_44 (lv_at hl 2 rfl) ?_
    refine pb_go_x (bc' := lC (s.1.length + 1) - lC s.1.length) (bs' := lS (s.1.length + 1) - lS s.1.length) (pb_runF (n := 0) (rest := []) C hG (x := ⟨"java/util/Iterator", "hasNext", "()Z"⟩) (met_J15_hasNext l it t k _ V hI (hLb.r (by omega)) (by omega)) hIo (ci := 16) rfl (by decide) q651 q552 q554 q76 q556 (by decide +kernel) rfl hl.1 rfl (Nat.le_of_ble_eq_true rfl) ⟨(Nat.le_of_ble_eq_true rfl), (Nat.le_of_ble_eq_true rfl)⟩ dX13_visit_46) (by omega) (by omega) ?_
    refine pb_ifB_eq C dX13_visit_51 (tgt := 115) (by decide) (fun c51_ => ?_) (fun c51_ => ?_)
    · have c51_ := of_decide_eq_false c51_
      have hk9 : k = s.1.length := by omega
      rw [hk9] at hv
      obtain ⟨fsL_, hLo⟩ := hLb.o
      have hel : ∀ x ∈ V, pb_El w _ x := fun x hx => by obtain ⟨j, hj9, rfl⟩ := nV_ex hx; have h9 := hRO.el (i := j) (by omega); rw [nV_app hj9] at h9; exact h9
      have hbe := hRO.el (i := s.1.length) (by omega)
      rw [← hVn, nV_last] at hbe
      have hob8 := (hRO s.1.length (by omega)).1
      rw [← hVn, nV_last] at hob8
      have hbt : b ≠ t := hob8.r.ty.1.ne C.inj hLb.2.1.r.ty.1 (by decide) (by decide) (by decide)
      have htT := hLb.2.1.r.ty.1
      have heT := hLb.ty h0T
      have hlcn : lC (V.length + 1) - lC V.length = lC (s.1.length + 1) - lC s.1.length := by rw [hVn]
      have hlsn : lS (V.length + 1) - lS V.length = lS (s.1.length + 1) - lS s.1.length := by rw [hVn]
      refine pb_aload_n C dX13_visit_115 rfl (lv_at hl 0 rfl) ?_
      refine pb_get C in_X13 hO.r (ci := 8) rfl 1 (by decide) q1062 (fun _ h9 => h9) (v := .ref (t)) rfl dX13_visit_116 ?_
      refine pb_aload C dX13_visit_119 (lv_at hl 1 rfl) ?_
      refine pb_go_i (bc' := lC (s.1.length + 1) - lC s.1.length - ((lC (s.1.length + 1) - lC s.1.length))) (bs' := lS (s.1.length + 1) - lS s.1.length - ((lS (s.1.length + 1) - lS s.1.length))) (pb_runF (n := 1) (rest := []) C hG (x := ⟨"java/util/List", "add", "(Ljava/lang/Object;)Z"⟩) (met_J2_add l z t e b V hz hLb hbe hbt hel (by omega)) hLo (ci := 15) rfl (by decide) q663 q150 q152 q54 q154 (by decide +kernel) rfl hl.1 rfl (Nat.le_of_ble_eq_true rfl) ⟨(Nat.le_of_ble_eq_true rfl), (Nat.le_of_ble_eq_true rfl)⟩ dX13_visit_121) (by omega) (by omega) (fun z_ H_ hp_ => ?_)
      obtain ⟨e1, he1, hLb9, hF2⟩ := hp_
      have hO := hO.kept (hF2.2 _ hO.lt (Or.inr ⟨hcT.ne C.inj htT (by decide) (by decide) (by decide), hcT.ne C.inj heT (by decide) (by decide) (by decide)⟩))
      have hRO := hRO.kept hF2 (fun q h => Or.inr ⟨h.ne C.inj htT (by decide) (by decide) (by decide), h.ne C.inj heT (by decide) (by decide) (by decide)⟩)
      have hFr := fP.tr hFr hF2 (fun q _ h => h.imp id (fun h => ⟨h.ne C.inj htT (by decide) (by decide) (by decide), h.ne C.inj heT (by decide) (by decide) (by decide)⟩))
      have hzV9 : ∀ i, i < (V ++ [b]).length → z ≤ nV (V ++ [b]) i := fun i hi => zV_app hzV hbz (by rw [List.length_append] at hi; exact Nat.lt_succ_iff.mp hi)
      refine pb_pop C dX13_visit_126 rfl ?_
      exact pb_vret C dX13_visit_127 (⟨rfl, ⟨t, e1, (V ++ [b]), P9, hzc, (by show pb_O w _ c 8 [.int (iZ (((s.1 ++ [(l_, lo_, r_, hi_)]).length : Nat) : Int)), .ref t, .int (iZ (viK s.1 (l_, lo_, r_, hi_) s.2.1 s.2.2 s.1.length).2)]; rw [hv, hln]; exact hO), hLb9, hl9, hRO, hds, (by show FO_ (s.1 ++ [(l_, lo_, r_, hi_)]).length P9 (viK s.1 (l_, lo_, r_, hi_) s.2.1 s.2.2 s.1.length).1; rw [hv]; exact hFO), hzV9⟩, hFr⟩)
    · have c51_ := of_decide_eq_true c51_
      refine pb_aload C dX13_visit_54 (lv_at hl 2 rfl) ?_
      refine pb_go_r (bc' := lC (s.1.length + 1) - lC s.1.length) (bs' := lS (s.1.length + 1) - lS s.1.length) (pb_runF (n := 0) (rest := []) C hG (x := ⟨"java/util/Iterator", "next", "()Ljava/lang/Object;"⟩) (met_J15_next l it t k (fun q => q ≠ it) V hI (hLb.rt C.inj h0T hI (by omega)) (by omega) (fun h9 => h9 rfl) (by omega)) hIo (ci := 16) rfl (by decide) q653 q561 q563 q76 q565 (by decide +kernel) rfl hl.1 rfl (Nat.le_of_ble_eq_true rfl) ⟨(Nat.le_of_ble_eq_true rfl), (Nat.le_of_ble_eq_true rfl)⟩ dX13_visit_56) (by omega) (by omega) (fun b_ H_ hp_ => ?_)
      obtain ⟨rfl, hI, hF1⟩ := hp_
      have hG := hG.kept (hF1.mono (fun q _ (hq : q < w.2.2.2) => show q ≠ _ from by omega))
      have hO := hO.kept (hF1.2 _ hO.lt (hcT.ne C.inj hIT (by decide) (by decide) (by decide)))
      have hLb := hLb.kept (hF1.2 _ hLb.2.1.lt (hLb.2.1.r.ty.1.ne C.inj hIT (by decide) (by decide) (by decide))) (fun _ h => hF1.2 _ h ((hLb.ty h0T).ne C.inj hIT (by decide) (by decide) (by decide)))
      have hRO := hRO.kept hF1 (fun q h => h.ne C.inj hIT (by decide) (by decide) (by decide))
      have hFr := fP.tr hFr hF1 (fun q h _ => show q ≠ it from by omega)
      have hok0 := hRO k (by omega)
      rw [nV_app (by omega), rc_app (by omega)] at hok0
      obtain ⟨hok1, hrk⟩ := hok0
      have hok := hok1.r
      obtain ⟨pk, hpk⟩ : ∃ pk, pk = nV (V ++ [b]) (P9 k) := ⟨_, rfl⟩
      rw [← hpk] at hok
      have hob0 := hRO s.1.length (by omega)
      rw [← hVn, nV_last, hVn, rc_last] at hob0
      obtain ⟨hob1, hrn⟩ := hob0
      have hob := hob1.r
      obtain ⟨pn, hpn⟩ : ∃ pn, pn = nV (V ++ [b]) (P9 s.1.length) := ⟨_, rfl⟩
      rw [← hpn] at hob
      obtain ⟨fk1, fk2, fk3, fk4, fk5⟩ := hFO.2 k (by omega)
      obtain ⟨fn1, fn2, fn3, fn4, fn5⟩ := hFO.2 s.1.length (by omega)
      refine pb_cast C hok (ci := 9) rfl q621 dX13_visit_61 ?_
      refine pb_astore C dX13_visit_64 hl (by decide) rfl fun ls hl => ?_
      have hl : lv_has ls 8 [(7, .ref ((nV V k))), (0, .ref (c)), (5, .ref (b)), (6, .ref (it))] := hl
      refine pb_aload C dX13_visit_66 (lv_at hl 0 rfl) ?_
      refine pb_aload C dX13_visit_68 (lv_at hl 2 rfl) ?_
      refine pb_go_x (bc' := lC (s.1.length + 1) - lC s.1.length) (bs' := lS (s.1.length + 1) - lS s.1.length) (pb_runV (rest := []) C hG (met_X10_isUnder l (nV V k) b pk pn (rc s.1 k) (l_, lo_, r_, hi_) hok hob hrk hrn) hok (ci := 9) rfl (lw_V q654 q655 q656 q79 q657) ⟨rfl, hdX10_isUnder⟩ rfl hl.1 rfl (Nat.le_of_ble_eq_true rfl) ⟨(Nat.le_of_ble_eq_true rfl), (Nat.le_of_ble_eq_true rfl)⟩ dX13_visit_70) (by omega) (by omega) ?_
      refine pb_ifB_eq C dX13_visit_73 (tgt := 112) (by decide) (fun c73_ => ?_) (fun c73_ => ?_)
      · refine pb_goto C dX13_visit_112 (tgt := 44) (by decide) ?_
        exact pb_V.mono (by omega) (by omega) (ih44 _ (by omega) (k + 1) it b p9 P9 ro9 H_ rfl hG (by omega) (by omega) (by omega) (by omega) (viK_no hv (Or.inl c73_)) hO hLb hRO hds (by rw [← hln]; exact hFO) hI hFr ls (lv_sub hl [1, 2, 3] rfl))
      · refine pb_aload C dX13_visit_76 (lv_at hl 0 rfl) ?_
        refine pb_go_x (bc' := lC (s.1.length + 1) - lC s.1.length) (bs' := lS (s.1.length + 1) - lS s.1.length) (pb_runV (rest := []) C hG (met_X10_root l (V ++ [b]) (s.1 ++ [(l_, lo_, r_, hi_)]) P9 ro9 hRO hds hl9 hFO k _ (by omega) (nV_app (by omega) _).symm) hok (ci := 9) rfl (lw_V q658 q659 q660 q79 q661) ⟨rfl, hdX10_root⟩ rfl hl.1 rfl (Nat.le_of_ble_eq_true rfl) ⟨(Nat.le_of_ble_eq_true rfl), (Nat.le_of_ble_eq_true rfl)⟩ dX13_visit_78) (by omega) (by omega) ?_
        refine pb_aload C dX13_visit_81 (lv_at hl 2 rfl) ?_
        refine pb_go_x (bc' := lC (s.1.length + 1) - lC s.1.length) (bs' := lS (s.1.length + 1) - lS s.1.length) (pb_runV (rest := [.ref ((nV (V ++ [b]) (ro9 k)))]) C hG (met_X10_root l (V ++ [b]) (s.1 ++ [(l_, lo_, r_, hi_)]) P9 ro9 hRO hds hl9 hFO s.1.length _ (by omega) (by rw [← hVn]; exact (nV_last _ _).symm)) hob (ci := 9) rfl (lw_V q658 q659 q660 q79 q661) ⟨rfl, hdX10_root⟩ rfl hl.1 rfl (Nat.le_of_ble_eq_true rfl) ⟨(Nat.le_of_ble_eq_true rfl), (Nat.le_of_ble_eq_true rfl)⟩ dX13_visit_83) (by omega) (by omega) ?_
        refine pb_acmp_eq C dX13_visit_86 (tgt := 112) (by decide) (fun c86_ => ?_) (fun c86_ => ?_)
        · have hr86 : ro9 k = ro9 s.1.length := hds.inj (by omega) (by omega) c86_
          refine pb_goto C dX13_visit_112 (tgt := 44) (by decide) ?_
          exact pb_V.mono (by omega) (by omega) (ih44 _ (by omega) (k + 1) it b p9 P9 ro9 H_ rfl hG (by omega) (by omega) (by omega) (by omega) (viK_no hv (Or.inr hr86)) hO hLb hRO hds (by rw [← hln]; exact hFO) hI hFr ls (lv_sub hl [1, 2, 3] rfl))
        · have hr86 : ro9 k ≠ ro9 s.1.length := fun e9 => c86_ (by rw [e9])
          refine pb_aload C dX13_visit_89 (lv_at hl 2 rfl) ?_
          refine pb_go_x (bc' := lC (s.1.length + 1) - lC s.1.length) (bs' := lS (s.1.length + 1) - lS s.1.length) (pb_runV (rest := []) C hG (met_X10_root l (V ++ [b]) (s.1 ++ [(l_, lo_, r_, hi_)]) P9 ro9 hRO hds hl9 hFO s.1.length _ (by omega) (by rw [← hVn]; exact (nV_last _ _).symm)) hob (ci := 9) rfl (lw_V q658 q659 q660 q79 q661) ⟨rfl, hdX10_root⟩ rfl hl.1 rfl (Nat.le_of_ble_eq_true rfl) ⟨(Nat.le_of_ble_eq_true rfl), (Nat.le_of_ble_eq_true rfl)⟩ dX13_visit_91) (by omega) (by omega) ?_
          refine pb_aload C dX13_visit_94 (lv_at hl 0 rfl) ?_
          refine pb_go_x (bc' := lC (s.1.length + 1) - lC s.1.length) (bs' := lS (s.1.length + 1) - lS s.1.length) (pb_runV (rest := [.ref ((nV (V ++ [b]) (ro9 s.1.length)))]) C hG (met_X10_root l (V ++ [b]) (s.1 ++ [(l_, lo_, r_, hi_)]) P9 ro9 hRO hds hl9 hFO k _ (by omega) (nV_app (by omega) _).symm) hok (ci := 9) rfl (lw_V q658 q659 q660 q79 q661) ⟨rfl, hdX10_root⟩ rfl hl.1 rfl (Nat.le_of_ble_eq_true rfl) ⟨(Nat.le_of_ble_eq_true rfl), (Nat.le_of_ble_eq_true rfl)⟩ dX13_visit_96) (by omega) (by omega) ?_
          have hox := (hRO (ro9 s.1.length) fn4).1
          have hrT := hox.r.ty.1
          have hIT := hI.ty
          have hcT := hO.r.ty.1
          have h0T : pb_Ty w _ (w.2.2.1 0) 23 := hG.2.2.2.1.ty
          have hrz : z ≤ nV (V ++ [b]) (ro9 s.1.length) := zV_app hzV hbz (by omega)
          refine pb_putN C in_X10 tyX10 tyX10_ok nmX10 hox (ci := 9) rfl 4 (by decide) q636 (fun _ h9 => h9) rfl (v := .ref ((nV (V ++ [b]) (ro9 k)))) rfl rfl (Nat.le_of_ble_eq_true rfl) (by omega) dX13_visit_99 fun H1_ hu_ hox => ?_
          have hox : pb_O w H1_ ((nV (V ++ [b]) (ro9 s.1.length))) 9 [.int (iZ ((rc (s.1 ++ [(l_, lo_, r_, hi_)]) (ro9 s.1.length)).1)), .int (iZ ((rc (s.1 ++ [(l_, lo_, r_, hi_)]) (ro9 s.1.length)).2.1)), .int (iZ ((rc (s.1 ++ [(l_, lo_, r_, hi_)]) (ro9 s.1.length)).2.2.1)), .int (iZ ((rc (s.1 ++ [(l_, lo_, r_, hi_)]) (ro9 s.1.length)).2.2.2)), .ref ((nV (V ++ [b]) (ro9 k)))] := hox
          have hG := hG.kept (hu_.z (by omega))
          have hs_H1_ := hu_.1
          have hO := hO.kept (hu_.2 _ (hcT.ne C.inj hrT (by decide) (by decide) (by decide)))
          have hLb := hLb.up C.inj h0T hrT (by decide) hu_
          have hFr := fP.tr hFr hu_.f (fP.u C.inj hrz hrT (by decide))
          have hI := hI.up2 hu_.f (hIT.ne C.inj hrT (by decide) (by decide) (by decide))
          have hRO := hRO.up hds hl9 fn4 hox hu_
          have hFO := FO_mg hFO fn4 fk4 fn5 fk5 (Ne.symm hr86)
          refine pb_aload_n C dX13_visit_102 rfl (lv_at hl 1 rfl) ?_
          refine pb_dup C dX13_visit_103 rfl ?_
          refine pb_get C in_X13 hO.r (ci := 8) rfl 2 (by decide) q1063 (fun _ h9 => h9) (v := .int (iZ (p9))) rfl dX13_visit_104 ?_
          refine pb_ic C dX13_visit_107 ?_
          refine pb_isub C dX13_visit_108 ?_
          have hcT := hO.r.ty.1
          have h0T : pb_Ty w _ (w.2.2.1 0) 23 := hG.2.2.2.1.ty
          have hIT := hI.ty
          refine pb_put C in_X13 tyX13 tyX13_ok nmX13 hO (ci := 8) rfl 2 (by decide) q1063 (fun _ h9 => h9) rfl (v := .int (iZ ((p9 - 1)))) rfl rfl (Nat.le_of_ble_eq_true rfl) (by omega) dX13_visit_109 fun H2_ hu_ hO => ?_
          have hO : pb_O w H2_ (c) 8 [.int (iZ ((((s.1.length : Nat) : Int) + 1))), .ref (t), .int (iZ ((p9 - 1)))] := hO
          have hG := hG.kept (hu_.z (by omega))
          have hs_H2_ := hu_.1
          have hLb := hLb.up C.inj h0T hcT (by decide) hu_
          have hRO := hRO.kept hu_.f (fun q h => h.ne C.inj hcT (by decide) (by decide) (by decide))
          have hFr := fP.tr hFr hu_.f (fP.u C.inj hzc hcT (by decide))
          have hI := hI.up2 hu_.f (hIT.ne C.inj hcT (by decide) (by decide) (by decide))
          refine pb_goto C dX13_visit_112 (tgt := 44) (by decide) ?_
          exact pb_V.mono (by omega) (by omega) (ih44 _ (by omega) (k + 1) it b (p9 - 1) (va_up P9 (ro9 s.1.length) (ro9 k)) (mgR ro9 (ro9 s.1.length) (ro9 k)) H2_ rfl hG (by omega) (by omega) (by omega) (by omega) (viK_yes hv c73_ hr86) hO hLb hRO hds (by rw [← hln]; exact hFO) hI hFr ls (lv_sub hl [1, 2, 3] rfl))
  refine pb_aload_n C dX13_visit_0 rfl (lv_at hl 0 rfl) ?_
  refine pb_iload_n C dX13_visit_1 rfl (lv_at hl 1 rfl) ?_
  refine pb_iload_n C dX13_visit_2 rfl (lv_at hl 2 rfl) ?_
  refine pb_iload_n C dX13_visit_3 rfl (lv_at hl 3 rfl) ?_
  refine pb_iload C dX13_visit_4 (lv_at hl 4 rfl) ?_
  have hcT := hO.r.ty.1
  have h0T : pb_Ty w H0 (w.2.2.1 0) 23 := hG.2.2.2.1.ty
  refine pb_go_v (bc' := 2 + (lC (s.1.length + 1) - lC s.1.length)) (bs' := 9 + (lS (s.1.length + 1) - lS s.1.length)) (pb_runSU (rest := []) C hG (met_X7_visit_X13 l c t _ s.2.2 l_ lo_ r_ hi_ (by omega) hO) hO.r (ci := 8) rfl q619 q597 q620 q596 q74 q602 (n := 4) ⟨by decide, by decide +kernel⟩ rfl hl.1 rfl (Nat.le_of_ble_eq_true rfl) ⟨(Nat.le_of_ble_eq_true rfl), (Nat.le_of_ble_eq_true rfl)⟩ dX13_visit_6) (by omega) (by omega) (fun H_ hp_ => ?_)
  obtain ⟨hO, hF1⟩ := hp_
  have hG := hG.kept (hF1.mono (fun q _ (hq : q < w.2.2.2) => show q ≠ _ from by omega))
  have hLb := hLb.kept (hF1.2 _ hLb.2.1.lt (hLb.2.1.r.ty.1.ne C.inj hcT (by decide) (by decide) (by decide))) (fun _ h => hF1.2 _ h ((hLb.ty h0T).ne C.inj hcT (by decide) (by decide) (by decide)))
  have hRO := hRO.kept hF1 (fun q h => h.ne C.inj hcT (by decide) (by decide) (by decide))
  have hFr := fP.tr hFr hF1 (fP.u C.inj hzc hcT (by decide))
  obtain ⟨b, hb9⟩ : ∃ b : Nat, b = H_.size := ⟨_, rfl⟩
  refine pb_newE C in_X10 tyX10 tyX10_ok (ci := 9) rfl q621 q622 q79 (fs := [.int (iZ (0)), .int (iZ (0)), .int (iZ (0)), .int (iZ (0)), .null]) (by decide) (bc' := 2 + (lC (s.1.length + 1) - lC s.1.length) - 1) (bs' := 9 + (lS (s.1.length + 1) - lS s.1.length) - 5) (by omega) (by omega) dX13_visit_9 fun a3_ H3_ ha_ hn_ hN3_ => ?_
  have hs3_ : H3_.size = H_.size + 1 := hn_.1
  have hG := hG.kept (hn_.f.mono (fun _ _ _ => trivial))
  have hO := hO.kept (hn_.2 _ hO.lt)
  have hz7 := hFr.1
  have hVlt : ∀ i, i < V.length → nV V i < H0.size := hV0
  have hLb := hLb.kept (hn_.2 _ hLb.2.1.lt) (fun _ h => hn_.2 _ h)
  have hRO := hRO.kept hn_.f (fun _ _ => trivial)
  have hFr := fP.tr hFr hn_.f (fun _ _ _ => trivial)
  obtain rfl : b = a3_ := by omega
  skip
  have hN := hN3_
  refine pb_dup C dX13_visit_12 rfl ?_
  refine pb_iload_n C dX13_visit_13 rfl (lv_at hl 1 rfl) ?_
  refine pb_iload_n C dX13_visit_14 rfl (lv_at hl 2 rfl) ?_
  refine pb_iload_n C dX13_visit_15 rfl (lv_at hl 3 rfl) ?_
  refine pb_iload C dX13_visit_16 (lv_at hl 4 rfl) ?_
  refine pb_go_v (bc' := 2 + (lC (s.1.length + 1) - lC s.1.length) - 1) (bs' := 9 + (lS (s.1.length + 1) - lS s.1.length) - 5) (pb_runI (rest := [.ref (b)]) C hG (met_X10_init l b l_ lo_ r_ hi_ (by omega) hN) q623 q624 q79 q625 rfl hdX10_init rfl hl.1 rfl (Nat.le_of_ble_eq_true rfl) ⟨(Nat.le_of_ble_eq_true rfl), (Nat.le_of_ble_eq_true rfl)⟩ dX13_visit_18) (by omega) (by omega) (fun H_ hp_ => ?_)
  obtain ⟨hN, hF1⟩ := hp_
  have hG := hG.kept (hF1.mono (fun q _ (hq : q < w.2.2.2) => show q ≠ _ from by omega))
  have hO := hO.kept (hF1.2 _ hO.lt (by omega))
  have hlt9 := hLb.2.1.lt
  have hLb := hLb.kept (hF1.2 _ hLb.2.1.lt (show t ≠ _ from by omega)) (fun _ h => hF1.2 _ h (show e ≠ _ from by omega))
  have hRO : RO w H_ V s.1 P := fun i hi => ⟨(hRO i hi).1.kept (hF1.2 _ (hRO i hi).1.lt (show nV V i ≠ _ from by have := hVlt i (by omega); omega)), (hRO i hi).2⟩
  have hFr := fP.tr hFr hF1 (fun q h _ => show q ≠ _ from by omega)
  have hRO := RO_app (b := b) (r := (l_, lo_, r_, hi_)) hRO hVn (fun i hi => (hFO.2 i hi).1) hN ⟨hl9, hlo9, hr9, hhi9⟩
  have hds := dsV_app (b := b) hds (fun i hi => by have := hVlt i hi; omega)
  have hFO := FO_new hFO
  have hbz : z ≤ b := by omega
  refine pb_astore C dX13_visit_21 hl (by decide) rfl fun ls hl => ?_
  have hl : lv_has ls 8 [(5, .ref (b)), (0, .ref (c)), (1, .int (iZ (l_))), (2, .int (iZ (lo_))), (3, .int (iZ (r_))), (4, .int (iZ (hi_)))] := hl
  refine pb_aload_n C dX13_visit_23 rfl (lv_at hl 1 rfl) ?_
  refine pb_dup C dX13_visit_24 rfl ?_
  refine pb_get C in_X13 hO.r (ci := 8) rfl 2 (by decide) q1063 (fun _ h9 => h9) (v := .int (iZ (s.2.2))) rfl dX13_visit_25 ?_
  refine pb_ic C dX13_visit_28 ?_
  refine pb_iadd C dX13_visit_29 ?_
  have hcT := hO.r.ty.1
  have h0T : pb_Ty w _ (w.2.2.1 0) 23 := hG.2.2.2.1.ty
  refine pb_put C in_X13 tyX13 tyX13_ok nmX13 hO (ci := 8) rfl 2 (by decide) q1063 (fun _ h9 => h9) rfl (v := .int (iZ ((s.2.2 + 1)))) rfl rfl (Nat.le_of_ble_eq_true rfl) (by omega) dX13_visit_30 fun H4_ hu_ hO => ?_
  have hO : pb_O w H4_ (c) 8 [.int (iZ ((((s.1.length : Nat) : Int) + 1))), .ref (t), .int (iZ ((s.2.2 + 1)))] := hO
  have hG := hG.kept (hu_.z (by omega))
  have hs_H4_ := hu_.1
  have hLb := hLb.up C.inj h0T hcT (by decide) hu_
  have hRO := hRO.kept hu_.f (fun q h => h.ne C.inj hcT (by decide) (by decide) (by decide))
  have hFr := fP.tr hFr hu_.f (fP.u C.inj hzc hcT (by decide))
  refine pb_aload_n C dX13_visit_33 rfl (lv_at hl 1 rfl) ?_
  refine pb_get C in_X13 hO.r (ci := 8) rfl 1 (by decide) q1062 (fun _ h9 => h9) (v := .ref (t)) rfl dX13_visit_34 ?_
  obtain ⟨fsL_, hLo⟩ := hLb.o
  refine pb_go_r (bc' := 2 + (lC (s.1.length + 1) - lC s.1.length) - 1 - 1) (bs' := 9 + (lS (s.1.length + 1) - lS s.1.length) - 5 - 4) (pb_runF (n := 0) (rest := []) C hG (x := ⟨"java/util/List", "iterator", "()Ljava/util/Iterator;"⟩) (met_J2_iterator l t _ V (hLb.r (by omega))) hLo (ci := 15) rfl (by decide) q649 q523 q525 q54 q527 (by decide +kernel) rfl hl.1 rfl (Nat.le_of_ble_eq_true rfl) ⟨(Nat.le_of_ble_eq_true rfl), (Nat.le_of_ble_eq_true rfl)⟩ dX13_visit_37) (by omega) (by omega) (fun it H_ hp_ => ?_)
  have hz7 := hFr.1
  obtain ⟨hit, hI, hF1⟩ := hp_
  have hG := hG.kept (hF1.mono (fun _ _ _ => trivial))
  have hO := hO.kept (hF1.2 _ hO.lt trivial)
  have hLb := hLb.kept (hF1.2 _ hLb.2.1.lt trivial) (fun _ h => hF1.2 _ h trivial)
  have hRO := hRO.kept hF1 (fun _ _ => trivial)
  have hFr := fP.tr hFr hF1 (fun _ _ _ => trivial)
  refine pb_astore C dX13_visit_42 hl (by decide) rfl fun ls hl => ?_
  have hl : lv_has ls 8 [(6, .ref (it)), (5, .ref (b)), (0, .ref (c)), (1, .int (iZ (l_))), (2, .int (iZ (lo_))), (3, .int (iZ (r_))), (4, .int (iZ (hi_)))] := hl
  exact pb_V.mono (by omega) (by omega) (L44 _ 0 it b (s.2.2 + 1) (va_up P s.1.length s.1.length) (va_up s.2.1 s.1.length s.1.length) H_ rfl hG (by omega) (by omega) (by omega) (by omega) rfl hO hLb hRO hds hFO hI hFr ls (lv_sub hl [2, 1, 0] rfl))

