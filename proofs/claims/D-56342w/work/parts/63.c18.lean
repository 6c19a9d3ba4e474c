set_option maxRecDepth 100000
set_option maxHeartbeats 1000000 in
theorem met_X11_add {w : pb_W} (l : Launch) {H0 : Heap} (c xs ys : Nat) (X Y : Nat → Int) (n : Nat) (hQ : Po w H0 c xs ys X Y n) (hn : n < 40) (hzc : w.2.2.2 ≤ c ∧ w.2.2.2 ≤ xs ∧ w.2.2.2 ≤ ys) (x y : Int) (hx : -1000 ≤ x ∧ x ≤ 1000) (hy : -1000 ≤ y ∧ y ≤ 1000) : pb_M w l yX11_add cX11_add 3 none 0 (0) (0) [.ref (c), .int (iZ (x)), .int (iZ (y))] H0 (pb_qv (fun H1 => Po w H1 c xs ys (va_up X n x) (va_up Y n y) (n + 1) ∧ pb_F (fun q => q ≠ c ∧ q ≠ xs ∧ q ≠ ys) H0 H1)) := by
  refine pb_of (by decide +kernel) (Nat.le_of_ble_eq_true rfl) ?_
  intro p_ e_ s_ m_ ar_ bl_ me_ co_ ls C hh hG hl
  have hl : lv_has ls 3 [(0, .ref (c)), (1, .int (iZ (x))), (2, .int (iZ (y)))] := hl
  obtain ⟨hO, hX, hY, hxy, hXr, hYr⟩ := id hQ
  have hFF : pb_F (fun q => q ≠ c ∧ q ≠ xs ∧ q ≠ ys) H0 H0 := pb_F.rf
  have hcx : c ≠ xs := hO.r.ty.1.ne C.inj hX.b.ty (by decide) (by decide) (by decide)
  have hcy : c ≠ ys := hO.r.ty.1.ne C.inj hY.b.ty (by decide) (by decide) (by decide)
  refine pb_aload_n C dX11_add_0 rfl (lv_at hl 0 rfl) ?_
  refine pb_get C in_X11 hO.r (ci := 10) rfl 0 (by decide) q762 (fun _ h9 => h9) (v := .ref (xs)) rfl dX11_add_1 ?_
  refine pb_aload_n C dX11_add_4 rfl (lv_at hl 0 rfl) ?_
  refine pb_get C in_X11 hO.r (ci := 10) rfl 2 (by decide) q764 (fun _ h9 => h9) (v := .int (iZ (((n : Nat) : Int)))) rfl dX11_add_5 ?_
  refine pb_iload_n C dX11_add_8 rfl (lv_at hl 1 rfl) ?_
  refine pb_iast C hX (i := ((n : Nat) : Int)) (by omega) (by omega) dX11_add_9 fun H1_ hu_ hX => ?_
  rw [pb_upZ, Int.toNat_natCast] at hX
  have hG := hG.kept (hu_.z (by omega))
  have hs_H1_ := hu_.1
  have hO := hO.kept (hu_.2 _ hcx)
  have hY := hY.kept (hu_.2 _ (Ne.symm hxy))
  have hFF := hFF.tr (hu_.f.mono (fun q _ hq => hq.2.1))
  refine pb_aload_n C dX11_add_10 rfl (lv_at hl 0 rfl) ?_
  refine pb_get C in_X11 hO.r (ci := 10) rfl 1 (by decide) q763 (fun _ h9 => h9) (v := .ref (ys)) rfl dX11_add_11 ?_
  refine pb_aload_n C dX11_add_14 rfl (lv_at hl 0 rfl) ?_
  refine pb_get C in_X11 hO.r (ci := 10) rfl 2 (by decide) q764 (fun _ h9 => h9) (v := .int (iZ (((n : Nat) : Int)))) rfl dX11_add_15 ?_
  refine pb_iload_n C dX11_add_18 rfl (lv_at hl 2 rfl) ?_
  refine pb_iast C hY (i := ((n : Nat) : Int)) (by omega) (by omega) dX11_add_19 fun H2_ hu_ hY => ?_
  rw [pb_upZ, Int.toNat_natCast] at hY
  have hG := hG.kept (hu_.z (by omega))
  have hs_H2_ := hu_.1
  have hO := hO.kept (hu_.2 _ hcy)
  have hX := hX.kept (hu_.2 _ hxy)
  have hFF := hFF.tr (hu_.f.mono (fun q _ hq => hq.2.2))
  refine pb_aload_n C dX11_add_20 rfl (lv_at hl 0 rfl) ?_
  refine pb_dup C dX11_add_21 rfl ?_
  refine pb_get C in_X11 hO.r (ci := 10) rfl 2 (by decide) q764 (fun _ h9 => h9) (v := .int (iZ (((n : Nat) : Int)))) rfl dX11_add_22 ?_
  refine pb_ic C dX11_add_25 ?_
  refine pb_iadd C dX11_add_26 ?_
  refine pb_put C in_X11 tyX11 tyX11_ok nmX11 hO (ci := 10) rfl 2 (by decide) q764 (fun _ h9 => h9) rfl (v := .int (iZ ((((n + 1) : Nat) : Int)))) rfl rfl (Nat.le_of_ble_eq_true rfl) (by omega) dX11_add_27 fun H3_ hu_ hO => ?_
  have hO : pb_O w H3_ (c) 10 [.ref (xs), .ref (ys), .int (iZ ((((n + 1) : Nat) : Int)))] := hO
  have hG := hG.kept (hu_.z (by omega))
  have hs_H3_ := hu_.1
  have hX := hX.kept (hu_.2 _ (Ne.symm hcx))
  have hY := hY.kept (hu_.2 _ (Ne.symm hcy))
  have hFF := hFF.tr (hu_.f.mono (fun q _ hq => hq.1))
  exact pb_vret C dX11_add_30 (⟨rfl, ⟨hO, hX, hY, hxy, fun i => by unfold va_up; split; exact hx; exact hXr i, fun i => by unfold va_up; split; exact hy; exact hYr i⟩, hFF⟩)

set_option maxHeartbeats 1000000 in
theorem met_X11_init {w : pb_W} (l : Launch) {H0 : Heap} (c : Nat) (hz : w.2.2.2 ≤ c) (hO : pb_O w H0 c 10 [.null, .null, .int (iZ 0)]) (x y : Int) (hx : -1000 ≤ x ∧ x ≤ 1000) (hy : -1000 ≤ y ∧ y ≤ 1000) : pb_M w l yX11_init cX11_init 3 none 1 (2) (80) [.ref (c), .int (iZ (x)), .int (iZ (y))] H0 (pb_qv (fun H1 => Po w H1 c H0.size (H0.size + 1) (va_up (fun _ => 0) 0 x) (va_up (fun _ => 0) 0 y) 1 ∧ pb_F (fun q => q < H0.size ∧ q ≠ c) H0 H1)) := by
  refine pb_of (by decide +kernel) (Nat.le_of_ble_eq_true rfl) ?_
  intro p_ e_ s_ m_ ar_ bl_ me_ co_ ls C hh hG hl
  have hl : lv_has ls 3 [(0, .ref (c)), (1, .int (iZ (x))), (2, .int (iZ (y)))] := hl
  have hlt := hO.lt
  have hz0 := hG.1
  have hFF : pb_F (fun q => q < H0.size ∧ q ≠ c) H0 H0 := pb_F.rf
  refine pb_aload_n C dX11_init_0 rfl (lv_at hl 0 rfl) ?_
  refine pb_objInit C q757 q99 q100 hl.1 ⟨(Nat.le_of_ble_eq_true rfl), (Nat.le_of_ble_eq_true rfl)⟩ dX11_init_1 ?_
  refine pb_aload_n C dX11_init_4 rfl (lv_at hl 0 rfl) ?_
  refine pb_bip C dX11_init_5 (by decide) ?_
  refine pb_newaE C 0 (by decide) (atype := .int) rfl q417 (n := 40) (by omega) rfl (bc' := 1) (bs' := 40) (by omega) (by omega) dX11_init_7 fun a1_ H1_ ha_ hn_ hN1_ => ?_
  have hs1_ : H1_.size = H0.size + 1 := hn_.1
  have hG := hG.kept (hn_.f.mono (fun _ _ _ => trivial))
  have hO := hO.kept (hn_.2 _ hO.lt)
  have hFF := hFF.tr (hn_.f.mono (fun _ _ _ => trivial))
  obtain rfl : a1_ = H0.size := by omega
  skip
  have hX := hN1_
  have hX : pb_A w H1_ (H0.size) 0 40 (fun _ => .int (iZ (0))) := hX
  refine pb_putF C in_X11 tyX11 tyX11_ok nmX11 hO (ci := 10) rfl 0 (by decide) q762 (fun _ h9 => h9) rfl rfl rfl (v := .ref (H0.size)) rfl rfl (Nat.le_of_ble_eq_true rfl) (by omega) dX11_init_9 fun H2_ hu_ hO => ?_
  have hO : pb_O w H2_ (c) 10 [.ref (H0.size), .null, .int (iZ (0))] := hO
  have hG := hG.kept (hu_.z (by omega))
  have hs_H2_ := hu_.1
  have hX := hX.kept (hu_.2 _ (by omega))
  have hFF := hFF.tr (hu_.f.mono (fun q _ hq => hq.2))
  refine pb_aload_n C dX11_init_12 rfl (lv_at hl 0 rfl) ?_
  refine pb_bip C dX11_init_13 (by decide) ?_
  refine pb_newaE C 0 (by decide) (atype := .int) rfl q417 (n := 40) (by omega) rfl (bc' := 0) (bs' := 0) (by omega) (by omega) dX11_init_15 fun a3_ H3_ ha_ hn_ hN3_ => ?_
  have hs3_ : H3_.size = H2_.size + 1 := hn_.1
  have hG := hG.kept (hn_.f.mono (fun _ _ _ => trivial))
  have hO := hO.kept (hn_.2 _ hO.lt)
  have hX := hX.kept (hn_.2 _ hX.lt)
  have hFF := hFF.tr (hn_.f.mono (fun _ _ _ => trivial))
  obtain rfl : a3_ = (H0.size + 1) := by omega
  skip
  have hY := hN3_
  have hY : pb_A w H3_ ((H0.size + 1)) 0 40 (fun _ => .int (iZ (0))) := hY
  refine pb_putF C in_X11 tyX11 tyX11_ok nmX11 hO (ci := 10) rfl 1 (by decide) q763 (fun _ h9 => h9) rfl rfl rfl (v := .ref ((H0.size + 1))) rfl rfl (Nat.le_of_ble_eq_true rfl) (by omega) dX11_init_17 fun H4_ hu_ hO => ?_
  have hO : pb_O w H4_ (c) 10 [.ref (H0.size), .ref ((H0.size + 1)), .int (iZ (0))] := hO
  have hG := hG.kept (hu_.z (by omega))
  have hs_H4_ := hu_.1
  have hX := hX.kept (hu_.2 _ (by omega))
  have hY := hY.kept (hu_.2 _ (by omega))
  have hFF := hFF.tr (hu_.f.mono (fun q _ hq => hq.2))
  refine pb_aload_n C dX11_init_20 rfl (lv_at hl 0 rfl) ?_
  refine pb_iload_n C dX11_init_21 rfl (lv_at hl 1 rfl) ?_
  refine pb_iload_n C dX11_init_22 rfl (lv_at hl 2 rfl) ?_
  refine pb_go_v (bc' := 0) (bs' := 0) (pb_runV (rest := []) C hG (met_X11_add l c H0.size (H0.size + 1) (fun _ => 0) (fun _ => 0) 0 ⟨hO, hX, hY, by omega, fun _ => (by decide : (-1000 : Int) ≤ 0 ∧ (0 : Int) ≤ 1000), fun _ => (by decide : (-1000 : Int) ≤ 0 ∧ (0 : Int) ≤ 1000)⟩ (by decide) ⟨by omega, by omega, by omega⟩ x y hx hy) hO.r (ci := 10) rfl (lw_V q758 q759 q760 q80 q761) ⟨rfl, hdX11_add⟩ rfl hl.1 rfl (Nat.le_of_ble_eq_true rfl) ⟨(Nat.le_of_ble_eq_true rfl), (Nat.le_of_ble_eq_true rfl)⟩ dX11_init_23) (by omega) (by omega) (fun H_ hp_ => ?_)
  obtain ⟨hQ, hF1⟩ := hp_
  exact pb_vret C dX11_init_26 (⟨rfl, hQ, hFF.tr (hF1.mono (fun q _ hq => ⟨hq.2, show q ≠ H0.size from by have := hq.1; omega, show q ≠ H0.size + 1 from by have := hq.1; omega⟩))⟩)

set_option maxHeartbeats 1000000 in
theorem met_X11_isStraightFrom {w : pb_W} (l : Launch) {H : Heap} (c : Nat) (P : Nat → Prop) (X Y : Nat → Int) (n : Nat) (hQ : Pq w H P c X Y n) (i : Nat) (hi : i < 40) (x y : Int) (hx : -2147483648 ≤ x ∧ x ≤ 2147483647) (hy : -2147483648 ≤ y ∧ y ≤ 2147483647) : pb_M w l yX11_isStraightFrom cX11_isStraightFrom 4 (some .boolean) 0 (0) (0) [.ref (c), .int (iZ (((i : Nat) : Int))), .int (iZ (x)), .int (iZ (y))] H (pb_qx (.int (iZ (bI (stA X Y i x y)))) H) := by
  refine pb_of (by decide +kernel) (Nat.le_of_ble_eq_true rfl) ?_
  intro p_ e_ s_ m_ ar_ bl_ me_ co_ ls C hh hG hl
  have hl : lv_has ls 4 [(0, .ref (c)), (1, .int (iZ (((i : Nat) : Int)))), (2, .int (iZ (x))), (3, .int (iZ (y)))] := hl
  obtain ⟨xs, ys, hPc, hPx, hPy, hO, hX, hY, hn1, hn40, hXr, hYr⟩ := id hQ
  refine pb_aload_n C dX11_isStraightFrom_0 rfl (lv_at hl 0 rfl) ?_
  refine pb_get C in_X11 hO (ci := 10) rfl 0 (by decide) q762 (fun _ h9 => h9) (v := .ref (xs)) rfl dX11_isStraightFrom_1 ?_
  refine pb_iload_n C dX11_isStraightFrom_4 rfl (lv_at hl 1 rfl) ?_
  have hXi := hXr i
  refine pb_iald C hX (i := ((i : Nat) : Int)) (v := .int (iZ ((X i)))) (by omega) rfl dX11_isStraightFrom_5 ?_
  refine pb_iload_n C dX11_isStraightFrom_6 rfl (lv_at hl 2 rfl) ?_
  refine pb_icmp_ne C dX11_isStraightFrom_7 (x := (X i)) (y := x) (tgt := 14) (by decide) (by omega) (by omega) (fun c7_ => ?_) (fun c7_ => ?_)
  · refine pb_ic C dX11_isStraightFrom_14 ?_
    refine pb_aload_n C dX11_isStraightFrom_15 rfl (lv_at hl 0 rfl) ?_
    refine pb_get C in_X11 hO (ci := 10) rfl 1 (by decide) q763 (fun _ h9 => h9) (v := .ref (ys)) rfl dX11_isStraightFrom_16 ?_
    refine pb_iload_n C dX11_isStraightFrom_19 rfl (lv_at hl 1 rfl) ?_
    have hYi := hYr i
    refine pb_iald C hY (i := ((i : Nat) : Int)) (v := .int (iZ ((Y i)))) (by omega) rfl dX11_isStraightFrom_20 ?_
    refine pb_iload_n C dX11_isStraightFrom_21 rfl (lv_at hl 3 rfl) ?_
    refine pb_icmp_ne C dX11_isStraightFrom_22 (x := (Y i)) (y := y) (tgt := 29) (by decide) (by omega) (by omega) (fun c22_ => ?_) (fun c22_ => ?_)
    · refine pb_ic C dX11_isStraightFrom_29 ?_
      refine pb_icmp_eq C dX11_isStraightFrom_30 (x := 0) (y := 0) (tgt := 37) (by decide) (by omega) (by omega) (fun c30_ => ?_) (fun c30_ => ?_)
      · refine pb_ic C dX11_isStraightFrom_37 ?_
        exact pb_zret C dX11_isStraightFrom_38 (by decide +kernel) (⟨by rw [show stA X Y i x y = false from by unfold stA; rw [decide_eq_false (show ¬ X i = x from by omega), decide_eq_false (show ¬ Y i = y from by omega)]; rfl]; rfl, rfl⟩)
      · exact absurd c30_ (by decide)
    · refine pb_ic C dX11_isStraightFrom_25 ?_
      refine pb_goto C dX11_isStraightFrom_26 (tgt := 30) (by decide) ?_
      refine pb_icmp_eq C dX11_isStraightFrom_30 (x := 0) (y := 1) (tgt := 37) (by decide) (by omega) (by omega) (fun c30_ => ?_) (fun c30_ => ?_)
      · exact absurd c30_ (by decide)
      · refine pb_ic C dX11_isStraightFrom_33 ?_
        refine pb_goto C dX11_isStraightFrom_34 (tgt := 38) (by decide) ?_
        exact pb_zret C dX11_isStraightFrom_38 (by decide +kernel) (⟨by rw [show stA X Y i x y = true from by unfold stA; rw [decide_eq_false (show ¬ X i = x from by omega), decide_eq_true (show Y i = y from by omega)]; rfl]; rfl, rfl⟩)
  · refine pb_ic C dX11_isStraightFrom_10 ?_
    refine pb_goto C dX11_isStraightFrom_11 (tgt := 15) (by decide) ?_
    refine pb_aload_n C dX11_isStraightFrom_15 rfl (lv_at hl 0 rfl) ?_
    refine pb_get C in_X11 hO (ci := 10) rfl 1 (by decide) q763 (fun _ h9 => h9) (v := .ref (ys)) rfl dX11_isStraightFrom_16 ?_
    refine pb_iload_n C dX11_isStraightFrom_19 rfl (lv_at hl 1 rfl) ?_
    have hYi := hYr i
    refine pb_iald C hY (i := ((i : Nat) : Int)) (v := .int (iZ ((Y i)))) (by omega) rfl dX11_isStraightFrom_20 ?_
    refine pb_iload_n C dX11_isStraightFrom_21 rfl (lv_at hl 3 rfl) ?_
    refine pb_icmp_ne C dX11_isStraightFrom_22 (x := (Y i)) (y := y) (tgt := 29) (by decide) (by omega) (by omega) (fun c22_ => ?_) (fun c22_ => ?_)
    · refine pb_ic C dX11_isStraightFrom_29 ?_
      refine pb_icmp_eq C dX11_isStraightFrom_30 (x := 1) (y := 0) (tgt := 37) (by decide) (by omega) (by omega) (fun c30_ => ?_) (fun c30_ => ?_)
      · exact absurd c30_ (by decide)
      · refine pb_ic C dX11_isStraightFrom_33 ?_
        refine pb_goto C dX11_isStraightFrom_34 (tgt := 38) (by decide) ?_
        exact pb_zret C dX11_isStraightFrom_38 (by decide +kernel) (⟨by rw [show stA X Y i x y = true from by unfold stA; rw [decide_eq_true (show X i = x from by omega), decide_eq_false (show ¬ Y i = y from by omega)]; rfl]; rfl, rfl⟩)
    · refine pb_ic C dX11_isStraightFrom_25 ?_
      refine pb_goto C dX11_isStraightFrom_26 (tgt := 30) (by decide) ?_
      refine pb_icmp_eq C dX11_isStraightFrom_30 (x := 1) (y := 1) (tgt := 37) (by decide) (by omega) (by omega) (fun c30_ => ?_) (fun c30_ => ?_)
      · refine pb_ic C dX11_isStraightFrom_37 ?_
        exact pb_zret C dX11_isStraightFrom_38 (by decide +kernel) (⟨by rw [show stA X Y i x y = false from by unfold stA; rw [decide_eq_true (show X i = x from by omega), decide_eq_true (show Y i = y from by omega)]; rfl]; rfl, rfl⟩)
      · exact absurd c30_ (by decide)

set_option maxHeartbeats 1000000 in
theorem met_X11_canClose {w : pb_W} (l : Launch) {H : Heap} (c : Nat) (P : Nat → Prop) (X Y : Nat → Int) (n : Nat) (hQ : Pq w H P c X Y n) : pb_M w l yX11_canClose cX11_canClose 1 (some .boolean) 1 (0) (0) [.ref (c)] H (pb_qx (.int (iZ (bI (ccA X Y n)))) H) := by
  refine pb_of (by decide +kernel) (Nat.le_of_ble_eq_true rfl) ?_
  intro p_ e_ s_ m_ ar_ bl_ me_ co_ ls C hh hG hl
  have hl : lv_has ls 1 [(0, .ref (c))] := hl
  obtain ⟨xs, ys, hPc, hPx, hPy, hO, hX, hY, hn1, hn40, hXr, hYr⟩ := id hQ
  refine pb_aload_n C dX11_canClose_0 rfl (lv_at hl 0 rfl) ?_
  refine pb_get C in_X11 hO (ci := 10) rfl 2 (by decide) q764 (fun _ h9 => h9) (v := .int (iZ (((n : Nat) : Int)))) rfl dX11_canClose_1 ?_
  refine pb_ic C dX11_canClose_4 ?_
  refine pb_icmp_lt C dX11_canClose_5 (x := ((n : Nat) : Int)) (y := 4) (tgt := 37) (by decide) (by omega) (by omega) (fun c5_ => ?_) (fun c5_ => ?_)
  · refine pb_ic C dX11_canClose_37 ?_
    exact pb_zret C dX11_canClose_38 (by decide +kernel) (⟨by rw [show ccA X Y n = false from by unfold ccA; rw [decide_eq_false (by omega)]; rfl]; rfl, rfl⟩)
  · refine pb_aload_n C dX11_canClose_8 rfl (lv_at hl 0 rfl) ?_
    refine pb_aload_n C dX11_canClose_9 rfl (lv_at hl 0 rfl) ?_
    refine pb_get C in_X11 hO (ci := 10) rfl 2 (by decide) q764 (fun _ h9 => h9) (v := .int (iZ (((n : Nat) : Int)))) rfl dX11_canClose_10 ?_
    refine pb_ic C dX11_canClose_13 ?_
    refine pb_isub C dX11_canClose_14 ?_
    refine pb_eq (g2 := F0 m_ 15 ls [.int (iZ ((((n - 1) : Nat) : Int))), .ref (c)]) (congrArg (fun z9 => F0 m_ 15 ls [.int (iZ z9), .ref (c)]) (show (((n : Nat) : Int) - 1) = (((n - 1) : Nat) : Int) from (by omega))) ?_
    refine pb_aload_n C dX11_canClose_15 rfl (lv_at hl 0 rfl) ?_
    refine pb_get C in_X11 hO (ci := 10) rfl 0 (by decide) q762 (fun _ h9 => h9) (v := .ref (xs)) rfl dX11_canClose_16 ?_
    refine pb_ic C dX11_canClose_19 ?_
    have hXi := hXr 0
    refine pb_iald C hX (i := 0) (v := .int (iZ ((X 0)))) (by omega) rfl dX11_canClose_20 ?_
    refine pb_aload_n C dX11_canClose_21 rfl (lv_at hl 0 rfl) ?_
    refine pb_get C in_X11 hO (ci := 10) rfl 1 (by decide) q763 (fun _ h9 => h9) (v := .ref (ys)) rfl dX11_canClose_22 ?_
    refine pb_ic C dX11_canClose_25 ?_
    have hYi := hYr 0
    refine pb_iald C hY (i := 0) (v := .int (iZ ((Y 0)))) (by omega) rfl dX11_canClose_26 ?_
    refine pb_go_x (bc' := 0) (bs' := 0) (pb_runV (rest := []) C hG (met_X11_isStraightFrom l c P X Y n hQ (n - 1) (by omega) (X 0) (Y 0) (by omega) (by omega)) hO (ci := 10) rfl (lw_V q816 q801 q802 q80 q803) ⟨rfl, hdX11_isStraightFrom⟩ rfl hl.1 rfl (Nat.le_of_ble_eq_true rfl) ⟨(Nat.le_of_ble_eq_true rfl), (Nat.le_of_ble_eq_true rfl)⟩ dX11_canClose_27) (by omega) (by omega) ?_
    refine pb_ifB_eq C dX11_canClose_30 (tgt := 37) (by decide) (fun c30_ => ?_) (fun c30_ => ?_)
    · refine pb_ic C dX11_canClose_37 ?_
      exact pb_zret C dX11_canClose_38 (by decide +kernel) (⟨by rw [show ccA X Y n = false from by unfold ccA; rw [decide_eq_true (by omega), c30_]; rfl]; rfl, rfl⟩)
    · refine pb_ic C dX11_canClose_33 ?_
      refine pb_goto C dX11_canClose_34 (tgt := 38) (by decide) ?_
      exact pb_zret C dX11_canClose_38 (by decide +kernel) (⟨by rw [show ccA X Y n = true from by unfold ccA; rw [decide_eq_true (by omega), c30_]; rfl]; rfl, rfl⟩)

set_option maxHeartbeats 1000000 in
theorem met_X11_risesAt {w : pb_W} (l : Launch) {H : Heap} (c : Nat) (P : Nat → Prop) (X Y : Nat → Int) (n : Nat) (hQ : Pq w H P c X Y n) (i : Nat) (hi : i < n) (y : Int) (hy : -1000 ≤ y ∧ y ≤ 1000) : pb_M w l yX11_risesAt cX11_risesAt 4 (some .int) 0 (0) (0) [.ref (c), .int (iZ (((i : Nat) : Int))), .int (iZ (y))] H (pb_qx (.int (iZ (rsA Y n i y))) H) := by
  refine pb_of (by decide +kernel) (Nat.le_of_ble_eq_true rfl) ?_
  intro p_ e_ s_ m_ ar_ bl_ me_ co_ ls C hh hG hl
  have hl : lv_has ls 4 [(0, .ref (c)), (1, .int (iZ (((i : Nat) : Int)))), (2, .int (iZ (y)))] := hl
  obtain ⟨xs, ys, hPc, hPx, hPy, hO, hX, hY, hn1, hn40, hXr, hYr⟩ := id hQ
  refine pb_iload_n C dX11_risesAt_0 rfl (lv_at hl 1 rfl) ?_
  refine pb_ic C dX11_risesAt_1 ?_
  refine pb_iadd C dX11_risesAt_2 ?_
  refine pb_aload_n C dX11_risesAt_3 rfl (lv_at hl 0 rfl) ?_
  refine pb_get C in_X11 hO (ci := 10) rfl 2 (by decide) q764 (fun _ h9 => h9) (v := .int (iZ (((n : Nat) : Int)))) rfl dX11_risesAt_4 ?_
  refine pb_irem C dX11_risesAt_7 (x := (((i + 1) : Nat) : Int)) (y := ((n : Nat) : Int)) (by omega) (by omega) (by omega) ?_
  have hmod : (i + 1) % n < n := Nat.mod_lt _ (by omega)
  have hYi := hYr i
  have hYn := hYr ((i + 1) % n)
  refine pb_istore_n C dX11_risesAt_8 rfl hl (by decide) rfl fun ls hl => ?_
  have hl : lv_has ls 4 [(3, .int (iZ (((((i + 1) % n) : Nat) : Int)))), (0, .ref (c)), (1, .int (iZ (((i : Nat) : Int)))), (2, .int (iZ (y)))] := hl
  refine pb_aload_n C dX11_risesAt_9 rfl (lv_at hl 1 rfl) ?_
  refine pb_get C in_X11 hO (ci := 10) rfl 1 (by decide) q763 (fun _ h9 => h9) (v := .ref (ys)) rfl dX11_risesAt_10 ?_
  refine pb_iload_n C dX11_risesAt_13 rfl (lv_at hl 2 rfl) ?_
  refine pb_iald C hY (i := ((i : Nat) : Int)) (v := .int (iZ ((Y i)))) (by omega) rfl dX11_risesAt_14 ?_
  refine pb_iload_n C dX11_risesAt_15 rfl (lv_at hl 3 rfl) ?_
  refine pb_icmp_gt C dX11_risesAt_16 (x := (Y i)) (y := y) (tgt := 31) (by decide) (by omega) (by omega) (fun c16_ => ?_) (fun c16_ => ?_)
  · refine pb_aload_n C dX11_risesAt_31 rfl (lv_at hl 1 rfl) ?_
    refine pb_get C in_X11 hO (ci := 10) rfl 1 (by decide) q763 (fun _ h9 => h9) (v := .ref (ys)) rfl dX11_risesAt_32 ?_
    refine pb_iload_n C dX11_risesAt_35 rfl (lv_at hl 0 rfl) ?_
    refine pb_iald C hY (i := ((((i + 1) % n) : Nat) : Int)) (v := .int (iZ ((Y (((i + 1) % n)))))) (by omega) rfl dX11_risesAt_36 ?_
    refine pb_iload_n C dX11_risesAt_37 rfl (lv_at hl 3 rfl) ?_
    refine pb_icmp_gt C dX11_risesAt_38 (x := (Y (((i + 1) % n)))) (y := y) (tgt := 55) (by decide) (by omega) (by omega) (fun c38_ => ?_) (fun c38_ => ?_)
    · refine pb_ic C dX11_risesAt_55 ?_
      exact pb_iret C dX11_risesAt_56 (⟨by rw [rsA, if_neg (by omega), if_neg (by omega)], rfl⟩)
    · refine pb_aload_n C dX11_risesAt_41 rfl (lv_at hl 1 rfl) ?_
      refine pb_get C in_X11 hO (ci := 10) rfl 1 (by decide) q763 (fun _ h9 => h9) (v := .ref (ys)) rfl dX11_risesAt_42 ?_
      refine pb_iload_n C dX11_risesAt_45 rfl (lv_at hl 2 rfl) ?_
      refine pb_iald C hY (i := ((i : Nat) : Int)) (v := .int (iZ ((Y i)))) (by omega) rfl dX11_risesAt_46 ?_
      refine pb_iload_n C dX11_risesAt_47 rfl (lv_at hl 3 rfl) ?_
      refine pb_icmp_le C dX11_risesAt_48 (x := (Y i)) (y := y) (tgt := 55) (by decide) (by omega) (by omega) (fun c48_ => ?_) (fun c48_ => ?_)
      · refine pb_ic C dX11_risesAt_55 ?_
        exact pb_iret C dX11_risesAt_56 (⟨by rw [rsA, if_neg (by omega), if_neg (by omega)], rfl⟩)
      · refine pb_ic C dX11_risesAt_51 ?_
        refine pb_goto C dX11_risesAt_52 (tgt := 56) (by decide) ?_
        exact pb_iret C dX11_risesAt_56 (⟨by rw [rsA, if_neg (by omega), if_pos ⟨by omega, by omega⟩], rfl⟩)
  · refine pb_aload_n C dX11_risesAt_19 rfl (lv_at hl 1 rfl) ?_
    refine pb_get C in_X11 hO (ci := 10) rfl 1 (by decide) q763 (fun _ h9 => h9) (v := .ref (ys)) rfl dX11_risesAt_20 ?_
    refine pb_iload_n C dX11_risesAt_23 rfl (lv_at hl 0 rfl) ?_
    refine pb_iald C hY (i := ((((i + 1) % n) : Nat) : Int)) (v := .int (iZ ((Y (((i + 1) % n)))))) (by omega) rfl dX11_risesAt_24 ?_
    refine pb_iload_n C dX11_risesAt_25 rfl (lv_at hl 3 rfl) ?_
    refine pb_icmp_le C dX11_risesAt_26 (x := (Y (((i + 1) % n)))) (y := y) (tgt := 31) (by decide) (by omega) (by omega) (fun c26_ => ?_) (fun c26_ => ?_)
    · refine pb_aload_n C dX11_risesAt_31 rfl (lv_at hl 1 rfl) ?_
      refine pb_get C in_X11 hO (ci := 10) rfl 1 (by decide) q763 (fun _ h9 => h9) (v := .ref (ys)) rfl dX11_risesAt_32 ?_
      refine pb_iload_n C dX11_risesAt_35 rfl (lv_at hl 0 rfl) ?_
      refine pb_iald C hY (i := ((((i + 1) % n) : Nat) : Int)) (v := .int (iZ ((Y (((i + 1) % n)))))) (by omega) rfl dX11_risesAt_36 ?_
      refine pb_iload_n C dX11_risesAt_37 rfl (lv_at hl 3 rfl) ?_
      refine pb_icmp_gt C dX11_risesAt_38 (x := (Y (((i + 1) % n)))) (y := y) (tgt := 55) (by decide) (by omega) (by omega) (fun c38_ => ?_) (fun c38_ => ?_)
      · refine pb_ic C dX11_risesAt_55 ?_
        exact pb_iret C dX11_risesAt_56 (⟨by rw [rsA, if_neg (by omega), if_neg (by omega)], rfl⟩)
      · refine pb_aload_n C dX11_risesAt_41 rfl (lv_at hl 1 rfl) ?_
        refine pb_get C in_X11 hO (ci := 10) rfl 1 (by decide) q763 (fun _ h9 => h9) (v := .ref (ys)) rfl dX11_risesAt_42 ?_
        refine pb_iload_n C dX11_risesAt_45 rfl (lv_at hl 2 rfl) ?_
        refine pb_iald C hY (i := ((i : Nat) : Int)) (v := .int (iZ ((Y i)))) (by omega) rfl dX11_risesAt_46 ?_
        refine pb_iload_n C dX11_risesAt_47 rfl (lv_at hl 3 rfl) ?_
        refine pb_icmp_le C dX11_risesAt_48 (x := (Y i)) (y := y) (tgt := 55) (by decide) (by omega) (by omega) (fun c48_ => ?_) (fun c48_ => ?_)
        · refine pb_ic C dX11_risesAt_55 ?_
          exact pb_iret C dX11_risesAt_56 (⟨by rw [rsA, if_neg (by omega), if_neg (by omega)], rfl⟩)
        · refine pb_ic C dX11_risesAt_51 ?_
          refine pb_goto C dX11_risesAt_52 (tgt := 56) (by decide) ?_
          exact pb_iret C dX11_risesAt_56 (⟨by rw [rsA, if_neg (by omega), if_pos ⟨by omega, by omega⟩], rfl⟩)
    · refine pb_ic C dX11_risesAt_29 ?_
      exact pb_iret C dX11_risesAt_30 (⟨by rw [rsA, if_pos ⟨by omega, by omega⟩], rfl⟩)

set_option maxHeartbeats 1000000 in
theorem met_X11_rowAt {w : pb_W} (l : Launch) {H0 : Heap} (c : Nat) (P : Nat → Prop) (X Y : Nat → Int) (n : Nat) (hQ : Pq w H0 P c X Y n) (y : Int) (hy : -1000 ≤ y ∧ y ≤ 1000) (odd : Bool) : pb_M w l yX11_rowAt cX11_rowAt 7 (some (.object "PolygonBoard$Spans")) 3 (5) (122) [.ref (c), .int (iZ (y)), .int (iZ ((bI (odd))))] H0 (pb_qr (fun s H1 => ∃ m, Sb w H1 H0.size s (rwE X Y n y odd 24) m ∧ pb_F (fun q => q < H0.size) H0 H1)) := by
  refine pb_of (by decide +kernel) (Nat.le_of_ble_eq_true rfl) ?_
  intro p_ e_ s_ m_ ar_ bl_ me_ co_ ls C hh hG hl
  have hl : lv_has ls 7 [(0, .ref (c)), (1, .int (iZ (y))), (2, .int (iZ ((bI (odd)))))] := hl
  have hzs := hG.1
  have hFF : pb_F (fun q => q < H0.size) H0 H0 := pb_F.rf
  obtain ⟨xs, ys, hPc, hPx, hPy, hO, hX, hY, hn1, hn40, hXr, hYr⟩ := id hQ
  have hQ : Pq w H0 (fun q => q < H0.size) c X Y n := ⟨xs, ys, hO.lt, hX.lt, hY.lt, hO, hX, hY, hn1, hn40, hXr, hYr⟩
  have L11 : ∀ (n_ : Nat) (x m s : Nat) (H : Heap), 24 - x = n_ → (pb_G w s_ H) → (x ≤ 24) → (Sb w H H0.size s (rwE X Y n y odd x) m) → (pb_F (fun q => q < H0.size) H0 H) → ∀ (ls : Array Slot), lv_has ls 7 [(0, .ref (c)), (1, .int (iZ (y))), (2, .int (iZ ((bI (odd))))), (3, .ref (s)), (4, .int (iZ (((x : Nat) : Int))))] → pb_V w.2.2.2 p_ l e_ (pb_rm 3 (5) (122)) s_ m_ ar_ bl_ me_ co_ H (potc m) (pot m) (pb_E w bl_ ar_ s_ (5) (122) (pb_qr (fun s H1 => ∃ m, Sb w H1 H0.size s (rwE X Y n y odd 24) m ∧ pb_F (fun q => q < H0.size) H0 H1))) (F0 m_ 11 ls []) := by
    intro n_
    induction n_ using Nat.strongRecOn with
    | _ n_ ih11 =>
    intro x m s H hm_ hG hx24 hSb hFF ls hl
    have hQ := hQ.kept hFF
    obtain ⟨xs, ys, hPc, hPx, hPy, hO, hX, hY, hn1, hn40, hXr, hYr⟩ := id hQ
    obtain ⟨fs_, hR_⟩ := hSb.o
    have L24 : ∀ (n_ : Nat) (k : Nat) (v : Int), n - k = n_ → (k ≤ n) → (x < 24) → (v = wdA X Y n ((x : Nat) : Int) y k) → (-(k : Int) ≤ v ∧ v ≤ (k : Int)) → ∀ (ls : Array Slot), lv_has ls 7 [(0, .ref (c)), (1, .int (iZ (y))), (2, .int (iZ ((bI (odd))))), (3, .ref (s)), (4, .int (iZ (((x : Nat) : Int)))), (5, .int (iZ (v))), (6, .int (iZ (((k : Nat) : Int))))] → pb_V w.2.2.2 p_ l e_ (pb_rm 3 (5) (122)) s_ m_ ar_ bl_ me_ co_ H (potc m) (pot m) (pb_E w bl_ ar_ s_ (5) (122) (pb_qr (fun s H1 => ∃ m, Sb w H1 H0.size s (rwE X Y n y odd 24) m ∧ pb_F (fun q => q < H0.size) H0 H1))) (F0 m_ 24 ls []) := by
      intro n_
      induction n_ using Nat.strongRecOn with
      | _ n_ ih24 =>
      intro k v hm_ hk hx25 hv hvr ls hl
      have L96 : ∀ (fl : Bool), (fl = fiA odd (wdA X Y n ((x : Nat) : Int) y n)) →  ∀ (ls : Array Slot), lv_has ls 7 [(0, .ref (c)), (1, .int (iZ (y))), (2, .int (iZ ((bI (odd))))), (3, .ref (s)), (4, .int (iZ (((x : Nat) : Int))))] → pb_V w.2.2.2 p_ l e_ (pb_rm 3 (5) (122)) s_ m_ ar_ bl_ me_ co_ H (potc m) (pot m) (pb_E w bl_ ar_ s_ (5) (122) (pb_qr (fun s H1 => ∃ m, Sb w H1 H0.size s (rwE X Y n y odd 24) m ∧ pb_F (fun q => q < H0.size) H0 H1))) (F0 m_ 96 ls [.int (iZ ((bI (fl))))]) := by
        intro fl hfl ls hl
        refine pb_istore C dX11_rowAt_96 hl (by decide) rfl fun ls hl => ?_
        have hl : lv_has ls 7 [(6, .int (iZ ((bI (fl))))), (0, .ref (c)), (1, .int (iZ (y))), (2, .int (iZ ((bI (odd))))), (3, .ref (s)), (4, .int (iZ (((x : Nat) : Int))))] := hl
        refine pb_aload_n C dX11_rowAt_98 rfl (lv_at hl 4 rfl) ?_
        refine pb_iload C dX11_rowAt_99 (lv_at hl 5 rfl) ?_
        refine pb_iload C dX11_rowAt_101 (lv_at hl 0 rfl) ?_
        refine pb_ifB_eq C dX11_rowAt_103 (tgt := 113) (by decide) (fun c103_ => ?_) (fun c103_ => ?_)
        · refine pb_iload C dX11_rowAt_113 (lv_at hl 5 rfl) ?_
          have hrl := rwE_len X Y n y odd x
          have hL1 : (spadd (rwE X Y n y odd x) ((x : Nat) : Int) ((x : Nat) : Int)).length ≤ 64 := Nat.le_trans (spadd_le _ _ _) (by omega)
          have hpot := sp_pot (E := (rwE X Y n y odd x)) (l := ((x : Nat) : Int)) (r := ((x : Nat) : Int)) hSb.m8 hL1
          obtain ⟨fs_, hR_⟩ := hSb.o
          have hz9 := hFF.1
          refine pb_go_v (bc' := potc m - ((spc ((rwE X Y n y odd x)) (((x : Nat) : Int)) (((x : Nat) : Int)) m))) (bs' := pot m - ((sps ((rwE X Y n y odd x)) (((x : Nat) : Int)) (((x : Nat) : Int)) m))) (pb_runV (rest := []) C hG (met_X4_add l H0.size s m ((rwE X Y n y odd x)) (by omega) hSb (((x : Nat) : Int)) (((x : Nat) : Int)) (by omega) (by omega) hL1) hR_ (ci := 3) rfl (lw_V q833 q419 q420 q70 q421) ⟨rfl, hdX4_add⟩ rfl hl.1 rfl (Nat.le_of_ble_eq_true rfl) ⟨(Nat.le_of_ble_eq_true rfl), (Nat.le_of_ble_eq_true rfl)⟩ dX11_rowAt_115) (by omega) (by omega) (fun H_ hp_ => ?_)
          obtain ⟨hSb, hF1⟩ := hp_
          have hG := hG.kept (hF1.mono (fun q _ (hq : q < w.2.2.2) => show q < _ from by omega))
          have hFF := hFF.tr (hF1.mono (fun q _ (hq : q < H0.size) => show q < _ from by omega))
          refine pb_iinc C dX11_rowAt_118 hl (j := 5) (x := (((x : Nat) : Int))) rfl (by decide) rfl fun ls hl => ?_
          have hl : lv_has ls 7 [(4, .int (iZ ((((x + 1) : Nat) : Int)))), (6, .int (iZ ((bI (fl))))), (0, .ref (c)), (1, .int (iZ (y))), (2, .int (iZ ((bI (odd))))), (3, .ref (s))] := hl
          refine pb_goto C dX11_rowAt_121 (tgt := 11) (by decide) ?_
          exact pb_V.mono (by omega) (by omega) (ih11 _ (by omega) (x + 1) (spm (rwE X Y n y odd x) ((x : Nat) : Int) ((x : Nat) : Int) m) s H_ rfl hG (by omega) (by rw [rwE, ← hfl, if_neg (by rw [c103_]; exact Bool.false_ne_true)]; exact hSb) hFF ls (lv_sub hl [2, 3, 4, 5, 0] rfl))
        · refine pb_iload C dX11_rowAt_106 (lv_at hl 5 rfl) ?_
          refine pb_ic C dX11_rowAt_108 ?_
          refine pb_iadd C dX11_rowAt_109 ?_
          refine pb_goto C dX11_rowAt_110 (tgt := 115) (by decide) ?_
          have hrl := rwE_len X Y n y odd x
          have hL1 : (spadd (rwE X Y n y odd x) ((x : Nat) : Int) ((x + 1 : Nat) : Int)).length ≤ 64 := Nat.le_trans (spadd_le _ _ _) (by omega)
          have hpot := sp_pot (E := (rwE X Y n y odd x)) (l := ((x : Nat) : Int)) (r := ((x + 1 : Nat) : Int)) hSb.m8 hL1
          obtain ⟨fs_, hR_⟩ := hSb.o
          have hz9 := hFF.1
          refine pb_go_v (bc' := potc m - ((spc ((rwE X Y n y odd x)) (((x : Nat) : Int)) (((x + 1 : Nat) : Int)) m))) (bs' := pot m - ((sps ((rwE X Y n y odd x)) (((x : Nat) : Int)) (((x + 1 : Nat) : Int)) m))) (pb_runV (rest := []) C hG (met_X4_add l H0.size s m ((rwE X Y n y odd x)) (by omega) hSb (((x : Nat) : Int)) (((x + 1 : Nat) : Int)) (by omega) (by omega) hL1) hR_ (ci := 3) rfl (lw_V q833 q419 q420 q70 q421) ⟨rfl, hdX4_add⟩ rfl hl.1 rfl (Nat.le_of_ble_eq_true rfl) ⟨(Nat.le_of_ble_eq_true rfl), (Nat.le_of_ble_eq_true rfl)⟩ dX11_rowAt_115) (by omega) (by omega) (fun H_ hp_ => ?_)
          obtain ⟨hSb, hF1⟩ := hp_
          have hG := hG.kept (hF1.mono (fun q _ (hq : q < w.2.2.2) => show q < _ from by omega))
          have hFF := hFF.tr (hF1.mono (fun q _ (hq : q < H0.size) => show q < _ from by omega))
          refine pb_iinc C dX11_rowAt_118 hl (j := 5) (x := (((x : Nat) : Int))) rfl (by decide) rfl fun ls hl => ?_
          have hl : lv_has ls 7 [(4, .int (iZ ((((x + 1) : Nat) : Int)))), (6, .int (iZ ((bI (fl))))), (0, .ref (c)), (1, .int (iZ (y))), (2, .int (iZ ((bI (odd))))), (3, .ref (s))] := hl
          refine pb_goto C dX11_rowAt_121 (tgt := 11) (by decide) ?_
          exact pb_V.mono (by omega) (by omega) (ih11 _ (by omega) (x + 1) (spm (rwE X Y n y odd x) ((x : Nat) : Int) ((x + 1 : Nat) : Int) m) s H_ rfl hG (by omega) (by rw [rwE, ← hfl, if_pos c103_]; exact hSb) hFF ls (lv_sub hl [2, 3, 4, 5, 0] rfl))
      refine pb_iload C dX11_rowAt_24 (lv_at hl 6 rfl) ?_
      refine pb_aload_n C dX11_rowAt_26 rfl (lv_at hl 0 rfl) ?_
      refine pb_get C in_X11 hO (ci := 10) rfl 2 (by decide) q764 (fun _ h9 => h9) (v := .int (iZ (((n : Nat) : Int)))) rfl dX11_rowAt_27 ?_
      refine pb_icmp_ge C dX11_rowAt_30 (x := ((k : Nat) : Int)) (y := ((n : Nat) : Int)) (tgt := 67) (by decide) (by omega) (by omega) (fun c30_ => ?_) (fun c30_ => ?_)
      · have hk9 : k = n := by omega
        have hv9 : v = (wdA X Y n ((x : Nat) : Int) y n) := by rw [hv, hk9]
        refine pb_iload_n C dX11_rowAt_67 rfl (lv_at hl 2 rfl) ?_
        refine pb_ifB_eq C dX11_rowAt_68 (tgt := 86) (by decide) (fun c68_ => ?_) (fun c68_ => ?_)
        · refine pb_iload C dX11_rowAt_86 (lv_at hl 5 rfl) ?_
          refine pb_if_eq C dX11_rowAt_88 (x := v) (tgt := 95) (by decide) (by omega) (fun c88_ => ?_) (fun c88_ => ?_)
          · refine pb_ic C dX11_rowAt_95 ?_
            exact pb_V.mono (by omega) (by omega) (L96 false (by rw [fiA, if_neg (by rw [c68_]; exact Bool.false_ne_true), ← hv9]; exact (decide_eq_false (by omega)).symm) ls (lv_sub hl [0, 1, 2, 3, 4] rfl))
          · refine pb_ic C dX11_rowAt_91 ?_
            refine pb_goto C dX11_rowAt_92 (tgt := 96) (by decide) ?_
            exact pb_V.mono (by omega) (by omega) (L96 true (by rw [fiA, if_neg (by rw [c68_]; exact Bool.false_ne_true), ← hv9]; exact (decide_eq_true (by omega)).symm) ls (lv_sub hl [0, 1, 2, 3, 4] rfl))
        · refine pb_iload C dX11_rowAt_71 (lv_at hl 5 rfl) ?_
          refine pb_ic C dX11_rowAt_73 ?_
          refine pb_irem C dX11_rowAt_74 (x := v) (y := 2) (by omega) (by omega) (by omega) ?_
          refine pb_if_eq C dX11_rowAt_75 (x := (Int.tmod v 2)) (tgt := 82) (by decide) (by have h1 := Int.tmod_lt_of_pos v (show (0 : Int) < 2 by decide); have h2 := Int.lt_tmod_of_pos v (show (0 : Int) < 2 by decide); omega) (fun c75_ => ?_) (fun c75_ => ?_)
          · refine pb_ic C dX11_rowAt_82 ?_
            refine pb_goto C dX11_rowAt_83 (tgt := 96) (by decide) ?_
            exact pb_V.mono (by omega) (by omega) (L96 false (by rw [fiA, if_pos c68_, ← hv9]; exact (decide_eq_false (by exact fun h => h c75_)).symm) ls (lv_sub hl [0, 1, 2, 3, 4] rfl))
          · refine pb_ic C dX11_rowAt_78 ?_
            refine pb_goto C dX11_rowAt_79 (tgt := 96) (by decide) ?_
            exact pb_V.mono (by omega) (by omega) (L96 true (by rw [fiA, if_pos c68_, ← hv9]; exact (decide_eq_true (by exact c75_)).symm) ls (lv_sub hl [0, 1, 2, 3, 4] rfl))
      · refine pb_iload C dX11_rowAt_33 (lv_at hl 5 rfl) ?_
        refine pb_aload_n C dX11_rowAt_35 rfl (lv_at hl 0 rfl) ?_
        refine pb_get C in_X11 hO (ci := 10) rfl 0 (by decide) q762 (fun _ h9 => h9) (v := .ref (xs)) rfl dX11_rowAt_36 ?_
        refine pb_iload C dX11_rowAt_39 (lv_at hl 6 rfl) ?_
        have hXk := hXr k
        refine pb_iald C hX (i := ((k : Nat) : Int)) (v := .int (iZ ((X k)))) (by omega) rfl dX11_rowAt_41 ?_
        refine pb_iload C dX11_rowAt_42 (lv_at hl 4 rfl) ?_
        refine pb_icmp_le C dX11_rowAt_44 (x := (X k)) (y := ((x : Nat) : Int)) (tgt := 57) (by decide) (by omega) (by omega) (fun c44_ => ?_) (fun c44_ => ?_)
        · refine pb_ic C dX11_rowAt_57 ?_
          refine pb_iadd C dX11_rowAt_58 ?_
          refine pb_istore C dX11_rowAt_59 hl (by decide) rfl fun ls hl => ?_
          have hl : lv_has ls 7 [(5, .int (iZ ((v + 0)))), (0, .ref (c)), (1, .int (iZ (y))), (2, .int (iZ ((bI (odd))))), (3, .ref (s)), (4, .int (iZ (((x : Nat) : Int)))), (6, .int (iZ (((k : Nat) : Int))))] := hl
          refine pb_iinc C dX11_rowAt_61 hl (j := 6) (x := (((k : Nat) : Int))) rfl (by decide) rfl fun ls hl => ?_
          have hl : lv_has ls 7 [(6, .int (iZ ((((k + 1) : Nat) : Int)))), (5, .int (iZ ((v + 0)))), (0, .ref (c)), (1, .int (iZ (y))), (2, .int (iZ ((bI (odd))))), (3, .ref (s)), (4, .int (iZ (((x : Nat) : Int))))] := hl
          refine pb_goto C dX11_rowAt_64 (tgt := 24) (by decide) ?_
          exact pb_V.mono (by omega) (by omega) (ih24 _ (by omega) (k + 1) (v + 0) rfl (by omega) (by omega) (by rw [wdA, ← hv, if_neg (by omega)]) (by have := rsA_rg Y n k y; omega) ls (lv_sub hl [2, 3, 4, 5, 6, 1, 0] rfl))
        · refine pb_aload_n C dX11_rowAt_47 rfl (lv_at hl 0 rfl) ?_
          refine pb_iload C dX11_rowAt_48 (lv_at hl 6 rfl) ?_
          refine pb_iload_n C dX11_rowAt_50 rfl (lv_at hl 1 rfl) ?_
          refine pb_go_x (bc' := potc m) (bs' := pot m) (pb_runV (rest := [.int (iZ (v))]) C hG (met_X11_risesAt l c _ X Y n hQ k (by omega) y (by omega)) hO (ci := 10) rfl (lw_V q829 q831 qs11 q80 q832) ⟨rfl, hdX11_risesAt⟩ rfl hl.1 rfl (Nat.le_of_ble_eq_true rfl) ⟨(Nat.le_of_ble_eq_true rfl), (Nat.le_of_ble_eq_true rfl)⟩ dX11_rowAt_51) (by omega) (by omega) ?_
          refine pb_goto C dX11_rowAt_54 (tgt := 58) (by decide) ?_
          refine pb_iadd C dX11_rowAt_58 ?_
          refine pb_istore C dX11_rowAt_59 hl (by decide) rfl fun ls hl => ?_
          have hl : lv_has ls 7 [(5, .int (iZ ((v + (rsA Y n k y))))), (0, .ref (c)), (1, .int (iZ (y))), (2, .int (iZ ((bI (odd))))), (3, .ref (s)), (4, .int (iZ (((x : Nat) : Int)))), (6, .int (iZ (((k : Nat) : Int))))] := hl
          refine pb_iinc C dX11_rowAt_61 hl (j := 6) (x := (((k : Nat) : Int))) rfl (by decide) rfl fun ls hl => ?_
          have hl : lv_has ls 7 [(6, .int (iZ ((((k + 1) : Nat) : Int)))), (5, .int (iZ ((v + (rsA Y n k y))))), (0, .ref (c)), (1, .int (iZ (y))), (2, .int (iZ ((bI (odd))))), (3, .ref (s)), (4, .int (iZ (((x : Nat) : Int))))] := hl
          refine pb_goto C dX11_rowAt_64 (tgt := 24) (by decide) ?_
          exact pb_V.mono (by omega) (by omega) (ih24 _ (by omega) (k + 1) (v + (rsA Y n k y)) rfl (by omega) (by omega) (by rw [wdA, ← hv, if_pos (by omega)]) (by have := rsA_rg Y n k y; omega) ls (lv_sub hl [2, 3, 4, 5, 6, 1, 0] rfl))
    refine pb_iload C dX11_rowAt_11 (lv_at hl 4 rfl) ?_
    refine pb_bip C dX11_rowAt_13 (by decide) ?_
    refine pb_icmp_ge C dX11_rowAt_15 (x := ((x : Nat) : Int)) (y := 24) (tgt := 124) (by decide) (by omega) (by omega) (fun c15_ => ?_) (fun c15_ => ?_)
    · refine pb_aload_n C dX11_rowAt_124 rfl (lv_at hl 3 rfl) ?_
      exact pb_aret C (Or.inl ⟨_, rfl⟩) dX11_rowAt_125 (Or.inr ⟨_, rfl⟩) (⟨_, rfl, m, by rw [show 24 = x from by omega]; exact hSb, hFF⟩)
    · refine pb_ic C dX11_rowAt_18 ?_
      refine pb_istore C dX11_rowAt_19 hl (by decide) rfl fun ls hl => ?_
      have hl : lv_has ls 7 [(5, .int (iZ (0))), (0, .ref (c)), (1, .int (iZ (y))), (2, .int (iZ ((bI (odd))))), (3, .ref (s)), (4, .int (iZ (((x : Nat) : Int))))] := hl
      refine pb_ic C dX11_rowAt_21 ?_
      refine pb_istore C dX11_rowAt_22 hl (by decide) rfl fun ls hl => ?_
      have hl : lv_has ls 7 [(6, .int (iZ (0))), (5, .int (iZ (0))), (0, .ref (c)), (1, .int (iZ (y))), (2, .int (iZ ((bI (odd))))), (3, .ref (s)), (4, .int (iZ (((x : Nat) : Int))))] := hl
      exact pb_V.mono (by omega) (by omega) (L24 _ 0 0 rfl (by omega) (by omega) rfl (by omega) ls (lv_sub hl [2, 3, 4, 5, 6, 1, 0] rfl))
  refine pb_newE C in_X4 tyX4 tyX4_ok (ci := 3) rfl q827 q405 q70 (fs := [.null, .int (iZ (0))]) (by decide) (bc' := 4) (bs' := 120) (by omega) (by omega) dX11_rowAt_0 fun a1_ H1_ ha_ hn_ hN1_ => ?_
  have hs1_ : H1_.size = H0.size + 1 := hn_.1
  have hG := hG.kept (hn_.f.mono (fun _ _ _ => trivial))
  have hFF := hFF.tr (hn_.f.mono (fun _ _ _ => trivial))
  have a1__e : a1_ = H0.size := ha_
  refine pb_dup C dX11_rowAt_3 rfl ?_
  have hz9 := hFF.1
  refine pb_go_v (bc' := 3) (bs' := 112) (pb_runIN (rest := [.ref (a1_)]) C hG (met_X4_init l H0.size a1_ (by omega) (by omega) hN1_) q828 q407 q70 q408 rfl hdX4_init rfl hl.1 rfl (Nat.le_of_ble_eq_true rfl) ⟨(Nat.le_of_ble_eq_true rfl), (Nat.le_of_ble_eq_true rfl)⟩ dX11_rowAt_4) (by omega) (by omega) (fun H_ hp_ => ?_)
  obtain ⟨hSb, hF1⟩ := hp_
  have hG := hG.kept (hF1.mono (fun q _ (hq : q < w.2.2.2) => show q ≠ _ from by omega))
  have hFF := hFF.tr (hF1.mono (fun q _ (hq : q < H0.size) => show q ≠ _ from by omega))
  have hp8 : potc 8 = 3 ∧ pot 8 = 112 := ⟨rfl, rfl⟩
  refine pb_astore_n C dX11_rowAt_7 rfl hl (by decide) rfl fun ls hl => ?_
  have hl : lv_has ls 7 [(3, .ref (a1_)), (0, .ref (c)), (1, .int (iZ (y))), (2, .int (iZ ((bI (odd)))))] := hl
  refine pb_ic C dX11_rowAt_8 ?_
  refine pb_istore C dX11_rowAt_9 hl (by decide) rfl fun ls hl => ?_
  have hl : lv_has ls 7 [(4, .int (iZ (0))), (3, .ref (a1_)), (0, .ref (c)), (1, .int (iZ (y))), (2, .int (iZ ((bI (odd)))))] := hl
  exact pb_V.mono (by omega) (by omega) (L11 _ 0 8 a1_ H_ rfl hG (by omega) hSb hFF ls (lv_sub hl [2, 3, 4, 1, 0] rfl))

set_option maxHeartbeats 1000000 in
theorem met_X11_filled {w : pb_W} (l : Launch) {H0 : Heap} (c : Nat) (P : Nat → Prop) (X Y : Nat → Int) (n : Nat) (hQ : Pq w H0 P c X Y n) (odd : Bool) : pb_M w l yX11_filled cX11_filled 4 (some (.object "PolygonBoard$Region")) 8 (2 + 24 * 5 + rpC 24 0) (4 + 24 * 122 + rpS 24 0) [.ref (c), .int (iZ ((bI (odd))))] H0 (pb_qr (fun r H1 => Rb w H1 H0.size r (filF X Y n odd 24) ∧ pb_F (fun q => q < H0.size) H0 H1)) := by
  refine pb_of (by decide +kernel) (Nat.le_of_ble_eq_true rfl) ?_
  intro p_ e_ s_ m_ ar_ bl_ me_ co_ ls C hh hG hl
  have hl : lv_has ls 4 [(0, .ref (c)), (1, .int (iZ ((bI (odd)))))] := hl
  have hzs := hG.1
  have hFF : pb_F (fun q => q < H0.size) H0 H0 := pb_F.rf
  obtain ⟨xs, ys, hPc, hPx, hPy, hO, hX, hY, hn1, hn40, hXr, hYr⟩ := id hQ
  have hQ : Pq w H0 (fun q => q < H0.size) c X Y n := ⟨xs, ys, hO.lt, hX.lt, hY.lt, hO, hX, hY, hn1, hn40, hXr, hYr⟩
  have hm2 : rpC 24 (filF X Y n odd 0).length = rpC 24 0 ∧ rpS 24 (filF X Y n odd 0).length = rpS 24 0 := ⟨rfl, rfl⟩
  have L10 : ∀ (n_ : Nat) (k r : Nat) (H : Heap), 24 - k = n_ → (pb_G w s_ H) → (k ≤ 24) → (Rb w H H0.size r (filF X Y n odd k)) → (pb_F (fun q => q < H0.size) H0 H) → ∀ (ls : Array Slot), lv_has ls 4 [(0, .ref (c)), (1, .int (iZ ((bI (odd))))), (2, .ref (r)), (3, .int (iZ (((k : Nat) : Int))))] → pb_V w.2.2.2 p_ l e_ (pb_rm 8 (2 + 24 * 5 + rpC 24 0) (4 + 24 * 122 + rpS 24 0)) s_ m_ ar_ bl_ me_ co_ H ((24 - k) * 5 + rpC 24 (filF X Y n odd k).length) ((24 - k) * 122 + rpS 24 (filF X Y n odd k).length) (pb_E w bl_ ar_ s_ (2 + 24 * 5 + rpC 24 0) (4 + 24 * 122 + rpS 24 0) (pb_qr (fun r H1 => Rb w H1 H0.size r (filF X Y n odd 24) ∧ pb_F (fun q => q < H0.size) H0 H1))) (F0 m_ 10 ls []) := by
    intro n_
    induction n_ using Nat.strongRecOn with
    | _ n_ ih10 =>
    intro k r H hm_ hG hk hRb hFF ls hl
    have hQ := hQ.kept hFF
    obtain ⟨fsQ_, hQo⟩ := hQ.o
    have hgl := filF_len X Y n odd k
    obtain ⟨HB, hHB⟩ : ∃ HB : Heap, HB = H := ⟨_, rfl⟩
    have hFI : pb_F (fun q => q < HB.size) HB H := by rw [hHB]; exact pb_F.rf
    have hzB : H0.size ≤ HB.size := by rw [hHB]; exact hFF.1
    have hRbB : Rb w HB H0.size r ((filF X Y n odd k)) := by rw [hHB]; exact hRb
    refine pb_iload_n C dX11_filled_10 rfl (lv_at hl 3 rfl) ?_
    refine pb_bip C dX11_filled_11 (by decide) ?_
    refine pb_icmp_ge C dX11_filled_13 (x := ((k : Nat) : Int)) (y := 24) (tgt := 36) (by decide) (by omega) (by omega) (fun c13_ => ?_) (fun c13_ => ?_)
    · refine pb_aload_n C dX11_filled_36 rfl (lv_at hl 2 rfl) ?_
      exact pb_aret C (Or.inl ⟨_, rfl⟩) dX11_filled_37 (Or.inr ⟨_, rfl⟩) (⟨_, rfl, by rw [show 24 = k from by omega]; exact hRb, hFF⟩)
    · refine pb_aload_n C dX11_filled_16 rfl (lv_at hl 2 rfl) ?_
      refine pb_iload_n C dX11_filled_17 rfl (lv_at hl 3 rfl) ?_
      refine pb_iload_n C dX11_filled_18 rfl (lv_at hl 3 rfl) ?_
      refine pb_ic C dX11_filled_19 ?_
      refine pb_iadd C dX11_filled_20 ?_
      refine pb_aload_n C dX11_filled_21 rfl (lv_at hl 0 rfl) ?_
      refine pb_iload_n C dX11_filled_22 rfl (lv_at hl 3 rfl) ?_
      refine pb_iload_n C dX11_filled_23 rfl (lv_at hl 1 rfl) ?_
      refine pb_go_r (bc' := (24 - k) * 5 + rpC 24 (filF X Y n odd k).length - 5) (bs' := (24 - k) * 122 + rpS 24 (filF X Y n odd k).length - 122) (pb_runV (rest := [.int (iZ ((((k + 1) : Nat) : Int))), .int (iZ (((k : Nat) : Int))), .ref (r)]) C hG (met_X11_rowAt l c _ X Y n hQ ((k : Nat) : Int) (by omega) odd) hQo (ci := 10) rfl (lw_V q823 q825 qs10 q80 q826) ⟨rfl, hdX11_rowAt⟩ rfl hl.1 rfl (Nat.le_of_ble_eq_true rfl) ⟨(Nat.le_of_ble_eq_true rfl), (Nat.le_of_ble_eq_true rfl)⟩ dX11_filled_24) (by omega) (by omega) (fun s3 H_ hp_ => ?_)
      have hz5 := hFF.1
      obtain ⟨m9, hS3, hF1⟩ := hp_
      have hG := hG.kept (hF1.mono (fun q _ (hq : q < w.2.2.2) => Nat.lt_of_lt_of_le hq hG.1))
      have hFF := hFF.tr (hF1.mono (fun q _ (hq : q < H0.size) => Nat.lt_of_lt_of_le hq hFF.1))
      have hFI := hFI.tr (hF1.mono (fun q _ (hq : q < HB.size) => Nat.lt_of_lt_of_le hq hFI.1))
      have hRb := hRbB.kept (hFI.mono (fun q h _ => h))
      obtain ⟨fsR_, hRbo⟩ := hRb.o
      have hpot := radd_pot (L := (filF X Y n odd k)) (lo := ((k : Nat) : Int)) (hi := ((k + 1 : Nat) : Int)) (E := (rwE X Y n ((k : Nat) : Int) odd 24)) (N := 24) (Nat.le_trans (radd_n hgl) (by omega))
      rw [show radd (filF X Y n odd k) ((k : Nat) : Int) ((k + 1 : Nat) : Int) (rwE X Y n ((k : Nat) : Int) odd 24) = filF X Y n odd (k + 1) from rfl] at hpot
      refine pb_go_v (bc' := (24 - k) * 5 + rpC 24 (filF X Y n odd k).length - 5 - ((radc ((filF X Y n odd k)) (((k : Nat) : Int)) (((k + 1 : Nat) : Int)) ((rwE X Y n ((k : Nat) : Int) odd 24))))) (bs' := (24 - k) * 122 + rpS 24 (filF X Y n odd k).length - 122 - ((rads ((filF X Y n odd k)) (((k : Nat) : Int)) (((k + 1 : Nat) : Int)) ((rwE X Y n ((k : Nat) : Int) odd 24))))) (pb_runV (rest := []) C hG (met_X2_add l H0.size r _ ((filF X Y n odd k)) ((rwE X Y n ((k : Nat) : Int) odd 24)) (((k : Nat) : Int)) (((k + 1 : Nat) : Int)) (by omega) hRb (hS3.hi hz5) (by omega) (by omega) (by omega)) hRbo (ci := 1) rfl (lw_V q834 q424 q425 q55 q426) ⟨rfl, hdX2_add⟩ rfl hl.1 rfl (Nat.le_of_ble_eq_true rfl) ⟨(Nat.le_of_ble_eq_true rfl), (Nat.le_of_ble_eq_true rfl)⟩ dX11_filled_27) (by omega) (by omega) (fun H_ hp_ => ?_)
      obtain ⟨hRb, hFA⟩ := hp_
      have hG := hG.kept (hFA.mono (fun q _ (hq : q < w.2.2.2) => Or.inl (by omega)))
      have hFF := hFF.tr (hFA.mono (fun q _ hq => Or.inl hq))
      refine pb_iinc C dX11_filled_30 hl (j := 3) (x := (((k : Nat) : Int))) rfl (by decide) rfl fun ls hl => ?_
      have hl : lv_has ls 4 [(3, .int (iZ ((((k + 1) : Nat) : Int)))), (0, .ref (c)), (1, .int (iZ ((bI (odd))))), (2, .ref (r))] := hl
      refine pb_goto C dX11_filled_33 (tgt := 10) (by decide) ?_
      exact pb_V.mono (by omega) (by omega) (ih10 _ (by omega) (k + 1) r H_ rfl hG (by omega) hRb hFF ls (lv_sub hl [1, 2, 3, 0] rfl))
  refine pb_newE C in_X2 tyX2 tyX2_ok (ci := 1) rfl q821 q131 q55 (fs := [.null]) (by decide) (bc' := 2 + 24 * 5 + rpC 24 0 - 1) (bs' := 4 + 24 * 122 + rpS 24 0 - 1) (by omega) (by omega) dX11_filled_0 fun a1_ H1_ ha_ hn_ hN1_ => ?_
  have hs1_ : H1_.size = H0.size + 1 := hn_.1
  have hG := hG.kept (hn_.f.mono (fun _ _ _ => trivial))
  have hz7 := hFF.1
  have hFF := hFF.tr (hn_.f.mono (fun _ _ _ => trivial))
  obtain rfl : a1_ = H0.size := by omega
  skip
  have hN := hN1_
  refine pb_dup C dX11_filled_3 rfl ?_
  have hz9 := hFF.1
  refine pb_go_v (bc' := 2 + 24 * 5 + rpC 24 0 - 1 - 1) (bs' := 4 + 24 * 122 + rpS 24 0 - 1 - 3) (pb_runIN (rest := [.ref (H0.size)]) C hG (met_X2_init l H0.size H0.size (by omega) (by omega) hN) q822 q133 q55 q134 rfl hdX2_init rfl hl.1 rfl (Nat.le_of_ble_eq_true rfl) ⟨(Nat.le_of_ble_eq_true rfl), (Nat.le_of_ble_eq_true rfl)⟩ dX11_filled_4) (by omega) (by omega) (fun H_ hp_ => ?_)
  obtain ⟨hRb, hF1⟩ := hp_
  have hG := hG.kept (hF1.mono (fun q _ (hq : q < w.2.2.2) => Or.inl (by omega)))
  have hFF := hFF.tr (hF1.mono (fun q _ hq => Or.inl hq))
  refine pb_astore_n C dX11_filled_7 rfl hl (by decide) rfl fun ls hl => ?_
  have hl : lv_has ls 4 [(2, .ref (H0.size)), (0, .ref (c)), (1, .int (iZ ((bI (odd)))))] := hl
  refine pb_ic C dX11_filled_8 ?_
  refine pb_istore_n C dX11_filled_9 rfl hl (by decide) rfl fun ls hl => ?_
  have hl : lv_has ls 4 [(3, .int (iZ (0))), (2, .ref (H0.size)), (0, .ref (c)), (1, .int (iZ ((bI (odd)))))] := hl
  exact pb_V.mono (by omega) (by omega) (L10 _ 0 H0.size H_ rfl hG (by omega) hRb hFF ls (lv_sub hl [2, 3, 1, 0] rfl))

