set_option maxRecDepth 100000
set_option maxHeartbeats 1000000 in
theorem met_X1_moveTo {w : pb_W} (l : Launch) {H0 : Heap} (M : Nat → Prop) (b sl e : Nat) (pv : Value) (V : List Nat) (G : Nat → Nat → Nat) (hB : BP w H0 M b sl e pv V G) (M0 : Nat → Prop) (hMM : ∀ q, M q → M0 q) (x y : Int) (hxy : (0 ≤ x ∧ x ≤ 24) ∧ 0 ≤ y ∧ y ≤ 24) : pb_M w l yX1_moveTo cX1_moveTo 3 (some .int) 2 (3) (83) [.ref (b), .int (iZ (x)), .int (iZ (y))] H0 (pb_qi (fun z H1 => z = 1 ∧ (∃ c xs ys, H0.size ≤ c ∧ H0.size ≤ xs ∧ H0.size ≤ ys ∧ Po w H1 c xs ys (va_up (fun _ => 0) 0 x) (va_up (fun _ => 0) 0 y) 1 ∧ BP w H1 (fun q => q ≠ c ∧ q ≠ xs ∧ q ≠ ys ∧ M0 q) b sl e (.ref c) V G) ∧ pb_F (fun q => q < H0.size ∧ q ≠ b) H0 H1)) := by
  refine pb_of (by decide +kernel) (Nat.le_of_ble_eq_true rfl) ?_
  intro p_ e_ s_ m_ ar_ bl_ me_ co_ ls C hh hG hl
  have hl : lv_has ls 3 [(0, .ref (b)), (1, .int (iZ (x))), (2, .int (iZ (y)))] := hl
  have hzs := hG.1
  have hba := hB.a
  have hbp := hB
  obtain ⟨hO, hzb, hL, hV8, hQQ⟩ := id hbp
  have hS := hB.sq
  obtain ⟨fsl_, hLo⟩ := hL.o
  have hFF : pb_F (fun q => q < H0.size) H0 H0 := pb_F.rf
  have hbe : e ≠ b := by
    rcases hL.2.2 with h9 | h9
    · rw [h9.1] at hV8; cases hV8
    · exact Ne.symm (hO.r.ty.1.ne C.inj h9.2.2.b.ty (by decide) (by decide) (by decide))
  have hbs : sl ≠ b := Ne.symm (hO.r.ty.1.ne C.inj hL.2.1.r.ty.1 (by decide) (by decide) (by decide))
  refine pb_iload_n C dX1_moveTo_0 rfl (lv_at hl 1 rfl) ?_
  refine pb_iload_n C dX1_moveTo_1 rfl (lv_at hl 2 rfl) ?_
  refine pb_go_x (bc' := 3) (bs' := 83) (pb_runS (rest := []) C hG (met_X1_isPoint l x y (by omega) (by omega)) (lw_S q378 q379 q51 q380) hdX1_isPoint rfl hl.1 rfl (Nat.le_of_ble_eq_true rfl) ⟨(Nat.le_of_ble_eq_true rfl), (Nat.le_of_ble_eq_true rfl)⟩ dX1_moveTo_2) (by omega) (by omega) ?_
  refine pb_eq (g2 := F0 m_ 5 ls [.int (iZ (1))]) (congrArg (fun z9 => F0 m_ 5 ls [.int (iZ z9)]) (show (bI ((decide (0 ≤ x ∧ x ≤ 24) && decide (0 ≤ y ∧ y ≤ 24)))) = 1 from (bI_t (by rw [decide_eq_true (show 0 ≤ x ∧ x ≤ 24 from by omega), decide_eq_true (show 0 ≤ y ∧ y ≤ 24 from by omega)]; rfl)))) ?_
  refine pb_go_n (bc' := 3) (bs' := 83) (pb_runS (rest := []) C hG (met_X1_checkArgument l) (lw_S q381 q382 q51 q383) hdX1_checkArgument rfl hl.1 rfl (Nat.le_of_ble_eq_true rfl) ⟨(Nat.le_of_ble_eq_true rfl), (Nat.le_of_ble_eq_true rfl)⟩ dX1_moveTo_5) (by omega) (by omega) ?_
  refine pb_aload_n C dX1_moveTo_8 rfl (lv_at hl 0 rfl) ?_
  refine pb_newE C in_X11 tyX11 tyX11_ok (ci := 10) rfl q752 q753 q80 (fs := [.null, .null, .int (iZ (0))]) (by decide) (bc' := 2) (bs' := 80) (by omega) (by omega) dX1_moveTo_9 fun a1_ H1_ ha_ hn_ hN1_ => ?_
  have hs1_ : H1_.size = H0.size + 1 := hn_.1
  have hG := hG.kept (hn_.f.mono (fun _ _ _ => trivial))
  have hO := hO.kept (hn_.2 _ hO.lt)
  have hB := (hB.monoM (M' := fun q => q < H0.size ∧ M0 q) (fun q hq hm => ⟨hq, hMM q hm⟩)).kept (hn_.f.mono (fun _ _ _ => trivial))
  have hFF := hFF.tr (hn_.f.mono (fun _ _ _ => trivial))
  obtain rfl : a1_ = H0.size := by omega
  skip
  have hN := hN1_
  refine pb_dup C dX1_moveTo_12 rfl ?_
  refine pb_iload_n C dX1_moveTo_13 rfl (lv_at hl 1 rfl) ?_
  refine pb_iload_n C dX1_moveTo_14 rfl (lv_at hl 2 rfl) ?_
  refine pb_go_v (bc' := 0) (bs' := 0) (pb_runI (rest := [.ref (H0.size), .ref (b)]) C hG (met_X11_init l H0.size (by omega) hN x y (by omega) (by omega)) q754 q755 q80 q756 rfl hdX11_init rfl hl.1 rfl (Nat.le_of_ble_eq_true rfl) ⟨(Nat.le_of_ble_eq_true rfl), (Nat.le_of_ble_eq_true rfl)⟩ dX1_moveTo_15) (by omega) (by omega) (fun H2 hp_ => ?_)
  obtain ⟨hPo, hF1⟩ := hp_
  obtain ⟨x9, hx9⟩ : ∃ z, z = H1_.size := ⟨_, rfl⟩
  obtain ⟨y9, hy9⟩ : ∃ z, z = H1_.size + 1 := ⟨_, rfl⟩
  rw [← hy9, ← hx9] at hPo
  have hG := hG.kept (hF1.mono (fun q _ (hq : q < w.2.2.2) => (⟨by omega, by omega⟩ : q < _ ∧ q ≠ _)))
  have hB := hB.frm hF1 ⟨by omega, by omega⟩ ⟨by omega, by omega⟩ ⟨by omega, by omega⟩ (fun q hq hm => (⟨by have := hm.1; omega, by have := hm.1; omega⟩ : q < _ ∧ q ≠ _))
  have hO := hB.1
  have hPc := hPo.1
  have hF8 : pb_F (fun q => q < H0.size) H0 H2 := hFF.tr (hF1.mono (fun q _ (hq : q < H0.size) => (⟨by omega, by omega⟩ : q < _ ∧ q ≠ _)))
  refine pb_put C in_X1 tyX1 tyX1_ok nmX1 hO (ci := 0) rfl 1 (by decide) q228 (fun _ h9 => h9) rfl (v := .ref (H0.size)) rfl rfl (Nat.le_of_ble_eq_true rfl) (by omega) dX1_moveTo_18 fun H2_ hu_ hO => ?_
  have hO : pb_O w H2_ (b) 0 [.ref (sl), .ref (H0.size)] := hO
  have hG := hG.kept (hu_.z (by omega))
  have hs_H2_ := hu_.1
  have hPc := hPc.kept (hu_.2 _ (by omega))
  have hPo := hPo.kept hu_.f (show H0.size ≠ b from by omega) (show x9 ≠ b from by omega) (show y9 ≠ b from by omega)
  have hB := hB.upv hO hu_.f hbs hbe
  have hFZ : pb_F (fun q => q < H0.size ∧ q ≠ b) H0 H2_ := (hF8.mono (fun q _ hq => hq.1)).tr (hu_.f.mono (fun q _ hq => hq.2))
  refine pb_aload_n C dX1_moveTo_21 rfl (lv_at hl 0 rfl) ?_
  refine pb_get C in_X1 hO.r (ci := 0) rfl 1 (by decide) q228 (fun _ h9 => h9) (v := .ref (H0.size)) rfl dX1_moveTo_22 ?_
  refine pb_getN C in_X11 hPc.r (ci := 10) rfl 2 (by decide) q765 (fun _ h9 => h9) (v := .int (iZ (((1 : Nat) : Int)))) rfl dX1_moveTo_25 ?_
  exact pb_iret C dX1_moveTo_28 (⟨_, rfl, rfl, ⟨H0.size, x9, y9, Nat.le_refl _, by omega, by omega, hPo, hB.monoM (fun q hq hm => ⟨by have := hm.1; omega, by have := hm.1; omega, by have := hm.1; omega, hm.2⟩)⟩, hFZ⟩)

set_option maxHeartbeats 1000000 in
theorem met_X1_pointCount_0 {w : pb_W} (l : Launch) {H : Heap} (b : Nat) (v : Value) (hO : pb_R w H b 0 [v, .null]) : pb_M w l yX1_pointCount cX1_pointCount 1 (some .int) 0 (0) (0) [.ref (b)] H (pb_qx (.int (iZ 0)) H) := by
  refine pb_of (by decide +kernel) (Nat.le_of_ble_eq_true rfl) ?_
  intro p_ e_ s_ m_ ar_ bl_ me_ co_ ls C hh hG hl
  have hl : lv_has ls 1 [(0, .ref (b))] := hl
  refine pb_aload_n C dX1_pointCount_0 rfl (lv_at hl 0 rfl) ?_
  refine pb_get C in_X1 hO (ci := 0) rfl 1 (by decide) q228 (fun _ h9 => h9) (v := .null) rfl dX1_pointCount_1 ?_
  refine pb_ifnonnullN C dX1_pointCount_4 ?_
  refine pb_ic C dX1_pointCount_7 ?_
  refine pb_goto C dX1_pointCount_8 (tgt := 18) (by decide) ?_
  exact pb_iret C dX1_pointCount_18 (⟨rfl, rfl⟩)

set_option maxHeartbeats 1000000 in
theorem met_X1_pointCount_1 {w : pb_W} (l : Launch) {H : Heap} (b c : Nat) (v v1 v2 : Value) (n : Nat) (hO : pb_R w H b 0 [v, .ref c]) (hO2 : pb_R w H c 10 [v1, v2, .int (iZ ((n : Nat) : Int))]) : pb_M w l yX1_pointCount cX1_pointCount 1 (some .int) 0 (0) (0) [.ref (b)] H (pb_qx (.int (iZ ((n : Nat) : Int))) H) := by
  refine pb_of (by decide +kernel) (Nat.le_of_ble_eq_true rfl) ?_
  intro p_ e_ s_ m_ ar_ bl_ me_ co_ ls C hh hG hl
  have hl : lv_has ls 1 [(0, .ref (b))] := hl
  refine pb_aload_n C dX1_pointCount_0 rfl (lv_at hl 0 rfl) ?_
  refine pb_get C in_X1 hO (ci := 0) rfl 1 (by decide) q228 (fun _ h9 => h9) (v := .ref (c)) rfl dX1_pointCount_1 ?_
  refine pb_ifnonnull C dX1_pointCount_4 (tgt := 11) (by decide) ?_
  refine pb_aload_n C dX1_pointCount_11 rfl (lv_at hl 0 rfl) ?_
  refine pb_get C in_X1 hO (ci := 0) rfl 1 (by decide) q228 (fun _ h9 => h9) (v := .ref (c)) rfl dX1_pointCount_12 ?_
  refine pb_getN C in_X11 hO2 (ci := 10) rfl 2 (by decide) q765 (fun _ h9 => h9) (v := .int (iZ (((n : Nat) : Int)))) rfl dX1_pointCount_15 ?_
  exact pb_iret C dX1_pointCount_18 (⟨rfl, rfl⟩)

set_option maxHeartbeats 1000000 in
theorem met_X1_lineTo {w : pb_W} (l : Launch) {H0 : Heap} (M0 : Nat → Prop) (b sl e c xs ys : Nat) (V : List Nat) (G : Nat → Nat → Nat) (hB : BP w H0 (fun q => q ≠ c ∧ q ≠ xs ∧ q ≠ ys ∧ M0 q) b sl e (.ref c) V G) (X Y : Nat → Int) (n : Nat) (hPo : Po w H0 c xs ys X Y n) (hzc : w.2.2.2 ≤ c ∧ w.2.2.2 ≤ xs ∧ w.2.2.2 ≤ ys) (x y : Int) (hxy : (0 ≤ x ∧ x ≤ 24) ∧ 0 ≤ y ∧ y ≤ 24) (hn : 1 ≤ n ∧ n ≤ 39) (hst : stA X Y (n - 1) x y = true) : pb_M w l yX1_lineTo cX1_lineTo 3 (some .int) 2 (0) (0) [.ref (b), .int (iZ (x)), .int (iZ (y))] H0 (pb_qi (fun z H1 => z = ((n + 1 : Nat) : Int) ∧ Po w H1 c xs ys (va_up X n x) (va_up Y n y) (n + 1) ∧ BP w H1 (fun q => q ≠ c ∧ q ≠ xs ∧ q ≠ ys ∧ M0 q) b sl e (.ref c) V G ∧ pb_F (fun q => q ≠ c ∧ q ≠ xs ∧ q ≠ ys) H0 H1)) := by
  refine pb_of (by decide +kernel) (Nat.le_of_ble_eq_true rfl) ?_
  intro p_ e_ s_ m_ ar_ bl_ me_ co_ ls C hh hG hl
  have hl : lv_has ls 3 [(0, .ref (b)), (1, .int (iZ (x))), (2, .int (iZ (y)))] := hl
  have hzs := hG.1
  have hba := hB.a
  have hbp := hB
  obtain ⟨hO, hzb, hL, hV8, hQQ⟩ := id hbp
  have hS := hB.sq
  obtain ⟨fsl_, hLo⟩ := hL.o
  have hFF : pb_F (fun q => q < H0.size) H0 H0 := pb_F.rf
  have hbe : e ≠ b := by
    rcases hL.2.2 with h9 | h9
    · rw [h9.1] at hV8; cases hV8
    · exact Ne.symm (hO.r.ty.1.ne C.inj h9.2.2.b.ty (by decide) (by decide) (by decide))
  have hbs : sl ≠ b := Ne.symm (hO.r.ty.1.ne C.inj hL.2.1.r.ty.1 (by decide) (by decide) (by decide))
  have hPc := hPo.1
  have tc := hPo.1.r.ty.1
  have tx := hPo.2.1.b.ty
  have ty := hPo.2.2.1.b.ty
  have tb := hO.r.ty.1
  have ts := hL.2.1.r.ty.1
  have te : pb_Ty w H0 e 23 := by
    rcases hL.2.2 with h9 | h9
    · rw [h9.1] at hV8; cases hV8
    · exact h9.2.2.b.ty
  have n1 : b ≠ c := tb.ne C.inj tc (by decide) (by decide) (by decide)
  have n2 : b ≠ xs := tb.ne C.inj tx (by decide) (by decide) (by decide)
  have n3 : b ≠ ys := tb.ne C.inj ty (by decide) (by decide) (by decide)
  have n4 : sl ≠ c := ts.ne C.inj tc (by decide) (by decide) (by decide)
  have n5 : sl ≠ xs := ts.ne C.inj tx (by decide) (by decide) (by decide)
  have n6 : sl ≠ ys := ts.ne C.inj ty (by decide) (by decide) (by decide)
  have n7 : e ≠ c := te.ne C.inj tc (by decide) (by decide) (by decide)
  have n8 : e ≠ xs := te.ne C.inj tx (by decide) (by decide) (by decide)
  have n9 : e ≠ ys := te.ne C.inj ty (by decide) (by decide) (by decide)
  refine pb_aload_n C dX1_lineTo_0 rfl (lv_at hl 0 rfl) ?_
  refine pb_aload_n C dX1_lineTo_1 rfl (lv_at hl 0 rfl) ?_
  refine pb_get C in_X1 hO.r (ci := 0) rfl 1 (by decide) q228 (fun _ h9 => h9) (v := .ref (c)) rfl dX1_lineTo_2 ?_
  refine pb_ifnull C dX1_lineTo_5 ?_
  refine pb_aload_n C dX1_lineTo_8 rfl (lv_at hl 0 rfl) ?_
  refine pb_get C in_X1 hO.r (ci := 0) rfl 1 (by decide) q228 (fun _ h9 => h9) (v := .ref (c)) rfl dX1_lineTo_9 ?_
  refine pb_getN C in_X11 hPc.r (ci := 10) rfl 2 (by decide) q765 (fun _ h9 => h9) (v := .int (iZ (((n : Nat) : Int)))) rfl dX1_lineTo_12 ?_
  refine pb_bip C dX1_lineTo_15 (by decide) ?_
  refine pb_icmp_ge C dX1_lineTo_17 (x := ((n : Nat) : Int)) (y := 40) (tgt := 24) (by decide) (by omega) (by omega) (fun c17_ => ?_) (fun c17_ => ?_)
  · omega
  · refine pb_ic C dX1_lineTo_20 ?_
    refine pb_goto C dX1_lineTo_21 (tgt := 25) (by decide) ?_
    refine pb_go_n (bc' := 0) (bs' := 0) (pb_runV (rest := []) C hG (met_X1_checkPath l b) hO.r (ci := 0) rfl (lw_V q781 q783 qs9 q51 q784) ⟨rfl, hdX1_checkPath⟩ rfl hl.1 rfl (Nat.le_of_ble_eq_true rfl) ⟨(Nat.le_of_ble_eq_true rfl), (Nat.le_of_ble_eq_true rfl)⟩ dX1_lineTo_25) (by omega) (by omega) ?_
    refine pb_iload_n C dX1_lineTo_28 rfl (lv_at hl 1 rfl) ?_
    refine pb_iload_n C dX1_lineTo_29 rfl (lv_at hl 2 rfl) ?_
    refine pb_go_x (bc' := 0) (bs' := 0) (pb_runS (rest := []) C hG (met_X1_isPoint l x y (by omega) (by omega)) (lw_S q378 q379 q51 q380) hdX1_isPoint rfl hl.1 rfl (Nat.le_of_ble_eq_true rfl) ⟨(Nat.le_of_ble_eq_true rfl), (Nat.le_of_ble_eq_true rfl)⟩ dX1_lineTo_30) (by omega) (by omega) ?_
    refine pb_eq (g2 := F0 m_ 33 ls [.int (iZ (1))]) (congrArg (fun z9 => F0 m_ 33 ls [.int (iZ z9)]) (show (bI ((decide (0 ≤ x ∧ x ≤ 24) && decide (0 ≤ y ∧ y ≤ 24)))) = 1 from (bI_t (by rw [decide_eq_true (show 0 ≤ x ∧ x ≤ 24 from by omega), decide_eq_true (show 0 ≤ y ∧ y ≤ 24 from by omega)]; rfl)))) ?_
    refine pb_if_eq C dX1_lineTo_33 (x := 1) (tgt := 61) (by decide) (by omega) (fun c33_ => ?_) (fun c33_ => ?_)
    · exact absurd c33_ (by decide)
    · refine pb_aload_n C dX1_lineTo_36 rfl (lv_at hl 0 rfl) ?_
      refine pb_get C in_X1 hO.r (ci := 0) rfl 1 (by decide) q228 (fun _ h9 => h9) (v := .ref (c)) rfl dX1_lineTo_37 ?_
      refine pb_aload_n C dX1_lineTo_40 rfl (lv_at hl 0 rfl) ?_
      refine pb_get C in_X1 hO.r (ci := 0) rfl 1 (by decide) q228 (fun _ h9 => h9) (v := .ref (c)) rfl dX1_lineTo_41 ?_
      refine pb_getN C in_X11 hPc.r (ci := 10) rfl 2 (by decide) q765 (fun _ h9 => h9) (v := .int (iZ (((n : Nat) : Int)))) rfl dX1_lineTo_44 ?_
      refine pb_ic C dX1_lineTo_47 ?_
      refine pb_isub C dX1_lineTo_48 ?_
      refine pb_eq (g2 := F0 m_ 49 ls [.int (iZ ((((n - 1) : Nat) : Int))), .ref (c)]) (congrArg (fun z9 => F0 m_ 49 ls [.int (iZ z9), .ref (c)]) (show (((n : Nat) : Int) - 1) = (((n - 1) : Nat) : Int) from (by omega))) ?_
      refine pb_iload_n C dX1_lineTo_49 rfl (lv_at hl 1 rfl) ?_
      refine pb_iload_n C dX1_lineTo_50 rfl (lv_at hl 2 rfl) ?_
      refine pb_go_x (bc' := 0) (bs' := 0) (pb_runV (rest := []) C hG (met_X11_isStraightFrom l c _ X Y n (hPo.q (by omega)) (n - 1) (by omega) x y (by omega) (by omega)) hPc.r (ci := 10) rfl (lw_V q800 q801 q802 q80 q803) ⟨rfl, hdX11_isStraightFrom⟩ rfl hl.1 rfl (Nat.le_of_ble_eq_true rfl) ⟨(Nat.le_of_ble_eq_true rfl), (Nat.le_of_ble_eq_true rfl)⟩ dX1_lineTo_51) (by omega) (by omega) ?_
      refine pb_eq (g2 := F0 m_ 54 ls [.int (iZ (1))]) (congrArg (fun z9 => F0 m_ 54 ls [.int (iZ z9)]) (show (bI ((stA X Y (n - 1) x y))) = 1 from (bI_t hst))) ?_
      refine pb_if_eq C dX1_lineTo_54 (x := 1) (tgt := 61) (by decide) (by omega) (fun c54_ => ?_) (fun c54_ => ?_)
      · exact absurd c54_ (by decide)
      · refine pb_ic C dX1_lineTo_57 ?_
        refine pb_goto C dX1_lineTo_58 (tgt := 62) (by decide) ?_
        refine pb_go_n (bc' := 0) (bs' := 0) (pb_runS (rest := []) C hG (met_X1_checkArgument l) (lw_S q381 q382 q51 q383) hdX1_checkArgument rfl hl.1 rfl (Nat.le_of_ble_eq_true rfl) ⟨(Nat.le_of_ble_eq_true rfl), (Nat.le_of_ble_eq_true rfl)⟩ dX1_lineTo_62) (by omega) (by omega) ?_
        refine pb_aload_n C dX1_lineTo_65 rfl (lv_at hl 0 rfl) ?_
        refine pb_get C in_X1 hO.r (ci := 0) rfl 1 (by decide) q228 (fun _ h9 => h9) (v := .ref (c)) rfl dX1_lineTo_66 ?_
        refine pb_iload_n C dX1_lineTo_69 rfl (lv_at hl 1 rfl) ?_
        refine pb_iload_n C dX1_lineTo_70 rfl (lv_at hl 2 rfl) ?_
        refine pb_go_v (bc' := 0) (bs' := 0) (pb_runV (rest := []) C hG (met_X11_add l c xs ys X Y n hPo (by omega) hzc x y (by omega) (by omega)) hPc.r (ci := 10) rfl (lw_V q804 q759 q760 q80 q761) ⟨rfl, hdX11_add⟩ rfl hl.1 rfl (Nat.le_of_ble_eq_true rfl) ⟨(Nat.le_of_ble_eq_true rfl), (Nat.le_of_ble_eq_true rfl)⟩ dX1_lineTo_71) (by omega) (by omega) (fun H_ hp_ => ?_)
        obtain ⟨hPo, hF1⟩ := hp_
        have hG := hG.kept (hF1.mono (fun q _ (hq : q < w.2.2.2) => (⟨by omega, by omega, by omega⟩ : q ≠ c ∧ q ≠ xs ∧ q ≠ ys)))
        have hB := hB.frm hF1 ⟨n1, n2, n3⟩ ⟨n4, n5, n6⟩ ⟨n7, n8, n9⟩ (fun q hq hm => ⟨hm.1, hm.2.1, hm.2.2.1⟩)
        have hO := hB.1
        have hPc := hPo.1
        refine pb_aload_n C dX1_lineTo_74 rfl (lv_at hl 0 rfl) ?_
        refine pb_get C in_X1 hO.r (ci := 0) rfl 1 (by decide) q228 (fun _ h9 => h9) (v := .ref (c)) rfl dX1_lineTo_75 ?_
        refine pb_getN C in_X11 hPc.r (ci := 10) rfl 2 (by decide) q765 (fun _ h9 => h9) (v := .int (iZ ((((n + 1) : Nat) : Int)))) rfl dX1_lineTo_78 ?_
        exact pb_iret C dX1_lineTo_81 (⟨_, rfl, rfl, hPo, hB, hF1⟩)

