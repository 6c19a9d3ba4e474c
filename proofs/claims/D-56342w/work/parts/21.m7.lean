set_option maxRecDepth 100000
set_option maxHeartbeats 1000000 in
theorem met_X3_hasCells {w : pb_W} (l : Launch) {H0 : Heap} (o : Nat) (S : mS) (hM : MW w H0 o S) (s : Nat) (hs : s < 8) (hb : mok S) (hc : cnt (mg S s) ≠ 0) : pb_M w l yX3_hasCells cX3_hasCells 2 (some .boolean) 5 (0) (0) [.ref (o), .int (iZ (((s : Nat) : Int)))] H0 (pb_qi (fun z H1 => z = 1 ∧ MW w H1 o (mI S 0 0) ∧ mF o H0 H1)) := by
  refine pb_of (by decide +kernel) (Nat.le_of_ble_eq_true rfl) ?_
  intro p_ e_ s_ m_ ar_ bl_ me_ co_ ls C hh hG hl
  have hl : lv_has ls 2 [(0, .ref (o)), (1, .int (iZ (((s : Nat) : Int))))] := hl
  have hM0 := hM; obtain ⟨hz, hO, hA1, hA2, hA3, hA4, hA5, hA6, hA7, hA8, hA9, hA10, hA11, hA12⟩ := hM0
  have hF : mF o H0 H0 := mF.rf
  refine pb_aload_n C dX3_hasCells_0 rfl (lv_at hl 0 rfl) ?_
  refine pb_iload_n C dX3_hasCells_1 rfl (lv_at hl 1 rfl) ?_
  refine pb_go_x (bc' := 0) (bs' := 0) (pb_runS (rest := [.ref (o)]) C hG (met_X3_isSheet l (((s : Nat) : Int)) (by omega)) (lw_S q1794 q1795 q60 q1796) hdX3_isSheet rfl hl.1 rfl (Nat.le_of_ble_eq_true rfl) ⟨(Nat.le_of_ble_eq_true rfl), (Nat.le_of_ble_eq_true rfl)⟩ dX3_hasCells_2) (by omega) (by omega) ?_
  refine pb_ifB_ne C dX3_hasCells_5 (tgt := 12) (by decide) (fun c5_ => ?_) (fun c5_ => ?_)
  · have c5_ := of_decide_eq_true c5_
    refine pb_aload_n C dX3_hasCells_12 rfl (lv_at hl 0 rfl) ?_
    refine pb_iload_n C dX3_hasCells_13 rfl (lv_at hl 1 rfl) ?_
    refine pb_go_x (bc' := 0) (bs' := 0) (pb_runV (rest := [.ref (o)]) C hG (met_X3_count l o S ⟨hz, hO, hA1, hA2, hA3, hA4, hA5, hA6, hA7, hA8, hA9, hA10, hA11, hA12⟩ s hs hb) hO.r (ci := 2) rfl (lw_V q1803 q1805 qs27 q60 q1806) ⟨rfl, hdX3_count⟩ rfl hl.1 rfl (Nat.le_of_ble_eq_true rfl) ⟨(Nat.le_of_ble_eq_true rfl), (Nat.le_of_ble_eq_true rfl)⟩ dX3_hasCells_14) (by omega) (by omega) ?_
    refine pb_if_ne C dX3_hasCells_17 (x := (((cnt (mg S s)) : Nat) : Int)) (tgt := 24) (by decide) (by have := cnt_le (mg S s); omega) (fun c17_ => ?_) (fun c17_ => ?_)
    · refine pb_ic C dX3_hasCells_24 ?_
      refine pb_put C in_X3 tyX3 tyX3_ok nmX3 hO (ci := 2) rfl 0 (by decide) q1737 (fun _ h9 => h9) rfl (v := .int (iZ (0))) rfl rfl (Nat.le_of_ble_eq_true rfl) (by omega) dX3_hasCells_25 fun H1_ hu_ hO => ?_
      have hO : pb_O w H1_ (o) 2 [.int (iZ (0)), .int (iZ ((S.1 1))), .ref (o + 1), .ref (o + 2), .ref (o + 3), .ref (o + 4), .ref (o + 5), .ref (o + 6), .ref (o + 7), .ref (o + 8), .ref (o + 9), .ref (o + 10), .ref (o + 11), .ref (o + 12), .int (iZ ((S.1 2))), .int (iZ ((S.1 3)))] := hO
      have hG := hG.kept (hu_.z (by omega))
      have hA1 := hA1.kept (hu_.2 _ (by omega))
      have hA2 := hA2.kept (hu_.2 _ (by omega))
      have hA3 := hA3.kept (hu_.2 _ (by omega))
      have hA4 := hA4.kept (hu_.2 _ (by omega))
      have hA5 := hA5.kept (hu_.2 _ (by omega))
      have hA6 := hA6.kept (hu_.2 _ (by omega))
      have hA7 := hA7.kept (hu_.2 _ (by omega))
      have hA8 := hA8.kept (hu_.2 _ (by omega))
      have hA9 := hA9.kept (hu_.2 _ (by omega))
      have hA10 := hA10.kept (hu_.2 _ (by omega))
      have hA11 := hA11.kept (hu_.2 _ (by omega))
      have hA12 := hA12.kept (hu_.2 _ (by omega))
      have hF := hF.up hu_ (by omega)
      refine pb_aload_n C dX3_hasCells_28 rfl (lv_at hl 0 rfl) ?_
      refine pb_get C in_X3 hO.r (ci := 2) rfl 0 (by decide) q1737 (fun _ h9 => h9) (v := .int (iZ (0))) rfl dX3_hasCells_29 ?_
      refine pb_if_ne C dX3_hasCells_32 (x := 0) (tgt := 39) (by decide) (by omega) (fun c32_ => ?_) (fun c32_ => ?_)
      · exact absurd c32_ (by decide)
      · refine pb_ic C dX3_hasCells_35 ?_
        refine pb_goto C dX3_hasCells_36 (tgt := 40) (by decide) ?_
        exact pb_zret C dX3_hasCells_40 (by decide +kernel) (⟨_, rfl, rfl, ⟨hz, hO, hA1, hA2, hA3, hA4, hA5, hA6, hA7, hA8, hA9, hA10, hA11, hA12⟩, hF⟩)
    · omega
  · have c5_ := of_decide_eq_false c5_
    omega

set_option maxHeartbeats 1000000 in
theorem met_X3_hasCells_1 {w : pb_W} (l : Launch) {H0 : Heap} (o : Nat) (S : mS) (hM : MW w H0 o S) (s : Int) (hsr : -2147483648 ≤ s ∧ s ≤ 2147483647) (hs : ¬ (0 ≤ s ∧ s ≤ 7)) : pb_M w l yX3_hasCells cX3_hasCells 2 (some .boolean) 5 (0) (0) [.ref (o), .int (iZ (s))] H0 (pb_qi (fun z H1 => z = 0 ∧ MW w H1 o (mI S 0 1) ∧ mF o H0 H1)) := by
  refine pb_of (by decide +kernel) (Nat.le_of_ble_eq_true rfl) ?_
  intro p_ e_ s_ m_ ar_ bl_ me_ co_ ls C hh hG hl
  have hl : lv_has ls 2 [(0, .ref (o)), (1, .int (iZ (s)))] := hl
  have hM0 := hM; obtain ⟨hz, hO, hA1, hA2, hA3, hA4, hA5, hA6, hA7, hA8, hA9, hA10, hA11, hA12⟩ := hM0
  have hF : mF o H0 H0 := mF.rf
  refine pb_aload_n C dX3_hasCells_0 rfl (lv_at hl 0 rfl) ?_
  refine pb_iload_n C dX3_hasCells_1 rfl (lv_at hl 1 rfl) ?_
  refine pb_go_x (bc' := 0) (bs' := 0) (pb_runS (rest := [.ref (o)]) C hG (met_X3_isSheet l s (by omega)) (lw_S q1794 q1795 q60 q1796) hdX3_isSheet rfl hl.1 rfl (Nat.le_of_ble_eq_true rfl) ⟨(Nat.le_of_ble_eq_true rfl), (Nat.le_of_ble_eq_true rfl)⟩ dX3_hasCells_2) (by omega) (by omega) ?_
  refine pb_ifB_ne C dX3_hasCells_5 (tgt := 12) (by decide) (fun c5_ => ?_) (fun c5_ => ?_)
  · have c5_ := of_decide_eq_true c5_
    omega
  · have c5_ := of_decide_eq_false c5_
    refine pb_ic C dX3_hasCells_8 ?_
    refine pb_goto C dX3_hasCells_9 (tgt := 25) (by decide) ?_
    refine pb_put C in_X3 tyX3 tyX3_ok nmX3 hO (ci := 2) rfl 0 (by decide) q1737 (fun _ h9 => h9) rfl (v := .int (iZ (1))) rfl rfl (Nat.le_of_ble_eq_true rfl) (by omega) dX3_hasCells_25 fun H1_ hu_ hO => ?_
    have hO : pb_O w H1_ (o) 2 [.int (iZ (1)), .int (iZ ((S.1 1))), .ref (o + 1), .ref (o + 2), .ref (o + 3), .ref (o + 4), .ref (o + 5), .ref (o + 6), .ref (o + 7), .ref (o + 8), .ref (o + 9), .ref (o + 10), .ref (o + 11), .ref (o + 12), .int (iZ ((S.1 2))), .int (iZ ((S.1 3)))] := hO
    have hG := hG.kept (hu_.z (by omega))
    have hA1 := hA1.kept (hu_.2 _ (by omega))
    have hA2 := hA2.kept (hu_.2 _ (by omega))
    have hA3 := hA3.kept (hu_.2 _ (by omega))
    have hA4 := hA4.kept (hu_.2 _ (by omega))
    have hA5 := hA5.kept (hu_.2 _ (by omega))
    have hA6 := hA6.kept (hu_.2 _ (by omega))
    have hA7 := hA7.kept (hu_.2 _ (by omega))
    have hA8 := hA8.kept (hu_.2 _ (by omega))
    have hA9 := hA9.kept (hu_.2 _ (by omega))
    have hA10 := hA10.kept (hu_.2 _ (by omega))
    have hA11 := hA11.kept (hu_.2 _ (by omega))
    have hA12 := hA12.kept (hu_.2 _ (by omega))
    have hF := hF.up hu_ (by omega)
    refine pb_aload_n C dX3_hasCells_28 rfl (lv_at hl 0 rfl) ?_
    refine pb_get C in_X3 hO.r (ci := 2) rfl 0 (by decide) q1737 (fun _ h9 => h9) (v := .int (iZ (1))) rfl dX3_hasCells_29 ?_
    refine pb_if_ne C dX3_hasCells_32 (x := 1) (tgt := 39) (by decide) (by omega) (fun c32_ => ?_) (fun c32_ => ?_)
    · refine pb_ic C dX3_hasCells_39 ?_
      exact pb_zret C dX3_hasCells_40 (by decide +kernel) (⟨_, rfl, rfl, ⟨hz, hO, hA1, hA2, hA3, hA4, hA5, hA6, hA7, hA8, hA9, hA10, hA11, hA12⟩, hF⟩)
    · exact absurd c32_ (by decide)

set_option maxHeartbeats 1000000 in
theorem met_X3_hasCells_2 {w : pb_W} (l : Launch) {H0 : Heap} (o : Nat) (S : mS) (hM : MW w H0 o S) (s : Nat) (hs : s < 8) (hb : mok S) (hc : cnt (mg S s) = 0) : pb_M w l yX3_hasCells cX3_hasCells 2 (some .boolean) 5 (0) (0) [.ref (o), .int (iZ (((s : Nat) : Int)))] H0 (pb_qi (fun z H1 => z = 0 ∧ MW w H1 o (mI S 0 2) ∧ mF o H0 H1)) := by
  refine pb_of (by decide +kernel) (Nat.le_of_ble_eq_true rfl) ?_
  intro p_ e_ s_ m_ ar_ bl_ me_ co_ ls C hh hG hl
  have hl : lv_has ls 2 [(0, .ref (o)), (1, .int (iZ (((s : Nat) : Int))))] := hl
  have hM0 := hM; obtain ⟨hz, hO, hA1, hA2, hA3, hA4, hA5, hA6, hA7, hA8, hA9, hA10, hA11, hA12⟩ := hM0
  have hF : mF o H0 H0 := mF.rf
  refine pb_aload_n C dX3_hasCells_0 rfl (lv_at hl 0 rfl) ?_
  refine pb_iload_n C dX3_hasCells_1 rfl (lv_at hl 1 rfl) ?_
  refine pb_go_x (bc' := 0) (bs' := 0) (pb_runS (rest := [.ref (o)]) C hG (met_X3_isSheet l (((s : Nat) : Int)) (by omega)) (lw_S q1794 q1795 q60 q1796) hdX3_isSheet rfl hl.1 rfl (Nat.le_of_ble_eq_true rfl) ⟨(Nat.le_of_ble_eq_true rfl), (Nat.le_of_ble_eq_true rfl)⟩ dX3_hasCells_2) (by omega) (by omega) ?_
  refine pb_ifB_ne C dX3_hasCells_5 (tgt := 12) (by decide) (fun c5_ => ?_) (fun c5_ => ?_)
  · have c5_ := of_decide_eq_true c5_
    refine pb_aload_n C dX3_hasCells_12 rfl (lv_at hl 0 rfl) ?_
    refine pb_iload_n C dX3_hasCells_13 rfl (lv_at hl 1 rfl) ?_
    refine pb_go_x (bc' := 0) (bs' := 0) (pb_runV (rest := [.ref (o)]) C hG (met_X3_count l o S ⟨hz, hO, hA1, hA2, hA3, hA4, hA5, hA6, hA7, hA8, hA9, hA10, hA11, hA12⟩ s hs hb) hO.r (ci := 2) rfl (lw_V q1803 q1805 qs27 q60 q1806) ⟨rfl, hdX3_count⟩ rfl hl.1 rfl (Nat.le_of_ble_eq_true rfl) ⟨(Nat.le_of_ble_eq_true rfl), (Nat.le_of_ble_eq_true rfl)⟩ dX3_hasCells_14) (by omega) (by omega) ?_
    refine pb_if_ne C dX3_hasCells_17 (x := (((cnt (mg S s)) : Nat) : Int)) (tgt := 24) (by decide) (by have := cnt_le (mg S s); omega) (fun c17_ => ?_) (fun c17_ => ?_)
    · omega
    · refine pb_ic C dX3_hasCells_20 ?_
      refine pb_goto C dX3_hasCells_21 (tgt := 25) (by decide) ?_
      refine pb_put C in_X3 tyX3 tyX3_ok nmX3 hO (ci := 2) rfl 0 (by decide) q1737 (fun _ h9 => h9) rfl (v := .int (iZ (2))) rfl rfl (Nat.le_of_ble_eq_true rfl) (by omega) dX3_hasCells_25 fun H1_ hu_ hO => ?_
      have hO : pb_O w H1_ (o) 2 [.int (iZ (2)), .int (iZ ((S.1 1))), .ref (o + 1), .ref (o + 2), .ref (o + 3), .ref (o + 4), .ref (o + 5), .ref (o + 6), .ref (o + 7), .ref (o + 8), .ref (o + 9), .ref (o + 10), .ref (o + 11), .ref (o + 12), .int (iZ ((S.1 2))), .int (iZ ((S.1 3)))] := hO
      have hG := hG.kept (hu_.z (by omega))
      have hA1 := hA1.kept (hu_.2 _ (by omega))
      have hA2 := hA2.kept (hu_.2 _ (by omega))
      have hA3 := hA3.kept (hu_.2 _ (by omega))
      have hA4 := hA4.kept (hu_.2 _ (by omega))
      have hA5 := hA5.kept (hu_.2 _ (by omega))
      have hA6 := hA6.kept (hu_.2 _ (by omega))
      have hA7 := hA7.kept (hu_.2 _ (by omega))
      have hA8 := hA8.kept (hu_.2 _ (by omega))
      have hA9 := hA9.kept (hu_.2 _ (by omega))
      have hA10 := hA10.kept (hu_.2 _ (by omega))
      have hA11 := hA11.kept (hu_.2 _ (by omega))
      have hA12 := hA12.kept (hu_.2 _ (by omega))
      have hF := hF.up hu_ (by omega)
      refine pb_aload_n C dX3_hasCells_28 rfl (lv_at hl 0 rfl) ?_
      refine pb_get C in_X3 hO.r (ci := 2) rfl 0 (by decide) q1737 (fun _ h9 => h9) (v := .int (iZ (2))) rfl dX3_hasCells_29 ?_
      refine pb_if_ne C dX3_hasCells_32 (x := 2) (tgt := 39) (by decide) (by omega) (fun c32_ => ?_) (fun c32_ => ?_)
      · refine pb_ic C dX3_hasCells_39 ?_
        exact pb_zret C dX3_hasCells_40 (by decide +kernel) (⟨_, rfl, rfl, ⟨hz, hO, hA1, hA2, hA3, hA4, hA5, hA6, hA7, hA8, hA9, hA10, hA11, hA12⟩, hF⟩)
      · exact absurd c32_ (by decide)
  · have c5_ := of_decide_eq_false c5_
    omega

set_option maxHeartbeats 1000000 in
theorem met_X3_shade {w : pb_W} (l : Launch) {H : Heap} (o : Nat) (S : mS) (hM : MW w H o S) (s : Nat) (hs : s < 8) (hb : mok S) : pb_M w l yX3_shade cX3_shade 4 (some .int) 3 (0) (0) [.ref (o), .int (iZ (((s : Nat) : Int)))] H (pb_qx (.int (iZ ((shdw (mg S s) 24 : Nat) : Int))) H) := by
  refine pb_of (by decide +kernel) (Nat.le_of_ble_eq_true rfl) ?_
  intro p_ e_ s_ m_ ar_ bl_ me_ co_ ls C hh hG hl
  have hl : lv_has ls 4 [(0, .ref (o)), (1, .int (iZ (((s : Nat) : Int))))] := hl
  have hM0 := hM; obtain ⟨hz, hO, hA1, hA2, hA3, hA4, hA5, hA6, hA7, hA8, hA9, hA10, hA11, hA12⟩ := hM0
  have L4 : ∀ (n_ : Nat) (k t : Nat), 24 - k = n_ → (k ≤ 24) → (t = shdw (mg S s) k) → ∀ (ls : Array Slot), lv_has ls 4 [(0, .ref (o)), (1, .int (iZ (((s : Nat) : Int)))), (2, .int (iZ (((t : Nat) : Int)))), (3, .int (iZ (((k : Nat) : Int))))] → pb_V w.2.2.2 p_ l e_ (pb_rm 3 (0) (0)) s_ m_ ar_ bl_ me_ co_ H (0) (0) (pb_E w bl_ ar_ s_ (0) (0) (pb_qx (.int (iZ ((shdw (mg S s) 24 : Nat) : Int))) H)) (F0 m_ 4 ls []) := by
    intro n_
    induction n_ using Nat.strongRecOn with
    | _ n_ ih4 =>
    intro k t hm_ hk ht ls hl
    refine pb_iload_n C dX3_shade_4 rfl (lv_at hl 3 rfl) ?_
    refine pb_bip C dX3_shade_5 (by decide) ?_
    refine pb_icmp_ge C dX3_shade_7 (x := ((k : Nat) : Int)) (y := 24) (tgt := 25) (by decide) (by omega) (by omega) (fun c7_ => ?_) (fun c7_ => ?_)
    · refine pb_iload_n C dX3_shade_25 rfl (lv_at hl 2 rfl) ?_
      exact pb_iret C dX3_shade_26 (⟨by rw [ht, show k = 24 from by omega], rfl⟩)
    · refine pb_iload_n C dX3_shade_10 rfl (lv_at hl 2 rfl) ?_
      refine pb_aload_n C dX3_shade_11 rfl (lv_at hl 0 rfl) ?_
      refine pb_iload_n C dX3_shade_12 rfl (lv_at hl 1 rfl) ?_
      refine pb_iload_n C dX3_shade_13 rfl (lv_at hl 3 rfl) ?_
      refine pb_go_x (bc' := 0) (bs' := 0) (pb_runV (rest := [.int (iZ (((t : Nat) : Int)))]) C hG (met_X3_row l o S hM s hs (((k : Nat) : Int)) (by omega)) hO.r (ci := 2) rfl (lw_V q1807 q1809 qs28 q60 q1810) ⟨rfl, hdX3_row⟩ rfl hl.1 rfl (Nat.le_of_ble_eq_true rfl) ⟨(Nat.le_of_ble_eq_true rfl), (Nat.le_of_ble_eq_true rfl)⟩ dX3_shade_14) (by omega) (by omega) ?_
      refine pb_eq (g2 := F0 m_ 17 ls [.int (iZ (((((mg S s) k) : Nat) : Int))), .int (iZ (((t : Nat) : Int)))]) (congrArg (fun z9 => F0 m_ 17 ls [.int (iZ z9), .int (iZ (((t : Nat) : Int)))]) (show (((gr (mg S s) (((k : Nat) : Int))) : Nat) : Int) = ((((mg S s) k) : Nat) : Int) from by rw [gr_nat])) ?_
      refine pb_ior C dX3_shade_17 (x := t) (y := ((mg S s) k)) ?_
      refine pb_istore_n C dX3_shade_18 rfl hl (by decide) rfl fun ls hl => ?_
      have hl : lv_has ls 4 [(2, .int (iZ ((((t ||| ((mg S s) k)) : Nat) : Int)))), (0, .ref (o)), (1, .int (iZ (((s : Nat) : Int)))), (3, .int (iZ (((k : Nat) : Int))))] := hl
      refine pb_iinc C dX3_shade_19 hl (j := 3) (x := (((k : Nat) : Int))) rfl (by decide) rfl fun ls hl => ?_
      have hl : lv_has ls 4 [(3, .int (iZ ((((k + 1) : Nat) : Int)))), (2, .int (iZ ((((t ||| ((mg S s) k)) : Nat) : Int)))), (0, .ref (o)), (1, .int (iZ (((s : Nat) : Int))))] := hl
      refine pb_goto C dX3_shade_22 (tgt := 4) (by decide) ?_
      exact pb_V.mono (by omega) (by omega) (ih4 _ (by omega) (k + 1) (t ||| ((mg S s) k)) rfl (by omega) (by rw [shdw, ← ht]) ls (lv_sub hl [2, 3, 1, 0] rfl))
  refine pb_ic C dX3_shade_0 ?_
  refine pb_istore_n C dX3_shade_1 rfl hl (by decide) rfl fun ls hl => ?_
  have hl : lv_has ls 4 [(2, .int (iZ (0))), (0, .ref (o)), (1, .int (iZ (((s : Nat) : Int))))] := hl
  refine pb_ic C dX3_shade_2 ?_
  refine pb_istore_n C dX3_shade_3 rfl hl (by decide) rfl fun ls hl => ?_
  have hl : lv_has ls 4 [(3, .int (iZ (0))), (2, .int (iZ (0))), (0, .ref (o)), (1, .int (iZ (((s : Nat) : Int))))] := hl
  exact pb_V.mono (by omega) (by omega) (L4 _ 0 0 rfl (by omega) rfl ls (lv_sub hl [2, 3, 1, 0] rfl))

set_option maxHeartbeats 1000000 in
theorem met_X3_left {w : pb_W} (l : Launch) {H0 : Heap} (o : Nat) (S : mS) (hM : MW w H0 o S) (s : Nat) (hs : s < 8) (hb : mok S) (hc : cnt (mg S s) ≠ 0) : pb_M w l yX3_left cX3_left 3 (some .int) 6 (0) (0) [.ref (o), .int (iZ (((s : Nat) : Int)))] H0 (pb_qi (fun z H1 => (∃ x : Nat, z = ((x : Nat) : Int) ∧ x < 24 ∧ (shdw (mg S s) 24).testBit x = true ∧ ∀ i, i < x → (shdw (mg S s) 24).testBit i = false) ∧ MW w H1 o (mI S 0 0) ∧ mF o H0 H1)) := by
  refine pb_of (by decide +kernel) (Nat.le_of_ble_eq_true rfl) ?_
  intro p_ e_ s_ m_ ar_ bl_ me_ co_ ls C hh hG hl
  have hl : lv_has ls 3 [(0, .ref (o)), (1, .int (iZ (((s : Nat) : Int))))] := hl
  have hM0 := hM; obtain ⟨hz, hO, hA1, hA2, hA3, hA4, hA5, hA6, hA7, hA8, hA9, hA10, hA11, hA12⟩ := hM0
  have hF : mF o H0 H0 := mF.rf
  have L12 : ∀ (n_ : Nat) (k : Nat) (H : Heap), 24 - k = n_ → (pb_G w s_ H) → (MW w H o (mI S 0 0)) → (mF o H0 H) → (k ≤ 23) → (∀ i, i < k → (shdw (mg S s) 24).testBit i = false) → ∀ (ls : Array Slot), lv_has ls 3 [(0, .ref (o)), (1, .int (iZ (((s : Nat) : Int)))), (2, .int (iZ (((k : Nat) : Int))))] → pb_V w.2.2.2 p_ l e_ (pb_rm 6 (0) (0)) s_ m_ ar_ bl_ me_ co_ H (0) (0) (pb_E w bl_ ar_ s_ (0) (0) (pb_qi (fun z H1 => (∃ x : Nat, z = ((x : Nat) : Int) ∧ x < 24 ∧ (shdw (mg S s) 24).testBit x = true ∧ ∀ i, i < x → (shdw (mg S s) 24).testBit i = false) ∧ MW w H1 o (mI S 0 0) ∧ mF o H0 H1))) (F0 m_ 12 ls []) := by
    intro n_
    induction n_ using Nat.strongRecOn with
    | _ n_ ih12 =>
    intro k H hm_ hG hM hF hk hl_ ls hl
    have hM0 := hM; obtain ⟨hz, hO, hA1, hA2, hA3, hA4, hA5, hA6, hA7, hA8, hA9, hA10, hA11, hA12⟩ := hM0
    have hO : pb_O w H o 2 [.int (iZ ((0))), .int (iZ ((S.1 1))), .ref (o + 1), .ref (o + 2), .ref (o + 3), .ref (o + 4), .ref (o + 5), .ref (o + 6), .ref (o + 7), .ref (o + 8), .ref (o + 9), .ref (o + 10), .ref (o + 11), .ref (o + 12), .int (iZ ((S.1 2))), .int (iZ ((S.1 3)))] := hO
    have hA1 : pb_A w H (o + 1) 0 192 (pb_nf (S.2.1 0)) := hA1
    have hA2 : pb_A w H (o + 2) 0 24 (pb_nf (S.2.1 1)) := hA2
    have hA3 : pb_A w H (o + 3) 0 26 (pb_nf (S.2.1 2)) := hA3
    have hA4 : pb_A w H (o + 4) 0 26 (pb_nf (S.2.1 3)) := hA4
    have hA5 : pb_A w H (o + 5) 0 40 (pb_zf (S.2.2 0)) := hA5
    have hA6 : pb_A w H (o + 6) 0 40 (pb_zf (S.2.2 1)) := hA6
    have hA7 : pb_A w H (o + 7) 0 576 (pb_zf (S.2.2 2)) := hA7
    have hA8 : pb_A w H (o + 8) 0 1300 (pb_zf (S.2.2 3)) := hA8
    have hA9 : pb_A w H (o + 9) 0 1300 (pb_zf (S.2.2 4)) := hA9
    have hA10 : pb_A w H (o + 10) 0 400 (pb_zf (S.2.2 5)) := hA10
    have hA11 : pb_A w H (o + 11) 0 400 (pb_zf (S.2.2 6)) := hA11
    have hA12 : pb_A w H (o + 12) 0 625 (pb_nf (S.2.1 4)) := hA12
    obtain ⟨xx, hxx, hxb⟩ := shade_bit (mg_ok hb hs) hc
    have hsl := shdw_lt (mg_ok hb hs) 24
    refine pb_aload_n C dX3_left_12 rfl (lv_at hl 0 rfl) ?_
    refine pb_iload_n C dX3_left_13 rfl (lv_at hl 1 rfl) ?_
    refine pb_go_x (bc' := 0) (bs' := 0) (pb_runV (rest := []) C hG (met_X3_shade l o (mI S 0 0) hM s hs hb) hO.r (ci := 2) rfl (lw_V q2001 q2003 qs43 q60 q2004) ⟨rfl, hdX3_shade⟩ rfl hl.1 rfl (Nat.le_of_ble_eq_true rfl) ⟨(Nat.le_of_ble_eq_true rfl), (Nat.le_of_ble_eq_true rfl)⟩ dX3_left_14) (by omega) (by omega) ?_
    refine pb_eq (g2 := F0 m_ 17 ls [.int (iZ ((((shdw (mg S s) 24) : Nat) : Int)))]) (congrArg (fun z9 => F0 m_ 17 ls [.int (iZ z9)]) (show (((shdw (mg (mI S 0 0) s) 24) : Nat) : Int) = (((shdw (mg S s) 24) : Nat) : Int) from rfl)) ?_
    refine pb_iload_n C dX3_left_17 rfl (lv_at hl 2 rfl) ?_
    refine pb_ishr C dX3_left_18 (x := (shdw (mg S s) 24)) (y := k) (by omega) (by omega) ?_
    refine pb_ic C dX3_left_19 ?_
    refine pb_iand C dX3_left_20 (x := ((shdw (mg S s) 24) >>> k)) (y := 1) ?_
    refine pb_if_ne C dX3_left_21 (x := (((((shdw (mg S s) 24) >>> k) &&& 1) : Nat) : Int)) (tgt := 30) (by decide) (by have := pb_a1 ((shdw (mg S s) 24) >>> k); omega) (fun c21_ => ?_) (fun c21_ => ?_)
    · have hbit : (shdw (mg S s) 24).testBit k = true := bit_t c21_
      refine pb_iload_n C dX3_left_30 rfl (lv_at hl 2 rfl) ?_
      exact pb_iret C dX3_left_31 (⟨_, rfl, ⟨k, rfl, by omega, hbit, hl_⟩, hM, hF⟩)
    · have hbit : (shdw (mg S s) 24).testBit k = false := (and1_bit _ _).mp (Int.ofNat.inj c21_)
      have hk1 : k + 1 ≤ 23 := up_step (p := fun i => (shdw (mg S s) 24).testBit i = false) hxx (by rw [hxb]; decide) hl_ hbit hk
      refine pb_iinc C dX3_left_24 hl (j := 2) (x := (((k : Nat) : Int))) rfl (by decide) rfl fun ls hl => ?_
      have hl : lv_has ls 3 [(2, .int (iZ ((((k + 1) : Nat) : Int)))), (0, .ref (o)), (1, .int (iZ (((s : Nat) : Int))))] := hl
      refine pb_goto C dX3_left_27 (tgt := 12) (by decide) ?_
      exact pb_V.mono (by omega) (by omega) (ih12 _ (by omega) (k + 1) H rfl hG hM hF hk1 (lt_s hl_ hbit) ls (lv_sub hl [1, 2, 0] rfl))
  refine pb_aload_n C dX3_left_0 rfl (lv_at hl 0 rfl) ?_
  refine pb_iload_n C dX3_left_1 rfl (lv_at hl 1 rfl) ?_
  refine pb_go_i (bc' := 0) (bs' := 0) (pb_runV (rest := []) C hG (met_X3_hasCells l o S hM s hs hb hc) hO.r (ci := 2) rfl (lw_V q1997 q1999 qs42 q60 q2000) ⟨rfl, hdX3_hasCells⟩ rfl hl.1 rfl (Nat.le_of_ble_eq_true rfl) ⟨(Nat.le_of_ble_eq_true rfl), (Nat.le_of_ble_eq_true rfl)⟩ dX3_left_2) (by omega) (by omega) (fun z_ H_ hp_ => ?_)
  obtain ⟨rfl, hM, hF⟩ := hp_
  have hG := hG.kept (hF.z hz)
  have hO := hM.2.1
  refine pb_if_ne C dX3_left_5 (x := 1) (tgt := 10) (by decide) (by omega) (fun c5_ => ?_) (fun c5_ => ?_)
  · refine pb_ic C dX3_left_10 ?_
    refine pb_istore_n C dX3_left_11 rfl hl (by decide) rfl fun ls hl => ?_
    have hl : lv_has ls 3 [(2, .int (iZ (0))), (0, .ref (o)), (1, .int (iZ (((s : Nat) : Int))))] := hl
    exact pb_V.mono (by omega) (by omega) (L12 _ 0 H_ rfl hG hM hF (by omega) (fun i hi => absurd hi (by omega)) ls (lv_sub hl [1, 2, 0] rfl))
  · exact absurd c5_ (by decide)

set_option maxHeartbeats 1000000 in
theorem met_X3_left_1 {w : pb_W} (l : Launch) {H0 : Heap} (o : Nat) (S : mS) (hM : MW w H0 o S) (s : Int) (hsr : -2147483648 ≤ s ∧ s ≤ 2147483647) (hs : ¬ (0 ≤ s ∧ s ≤ 7)) : pb_M w l yX3_left cX3_left 3 (some .int) 6 (0) (0) [.ref (o), .int (iZ (s))] H0 (pb_qi (fun z H1 => z = 0 ∧ MW w H1 o (mI S 0 1) ∧ mF o H0 H1)) := by
  refine pb_of (by decide +kernel) (Nat.le_of_ble_eq_true rfl) ?_
  intro p_ e_ s_ m_ ar_ bl_ me_ co_ ls C hh hG hl
  have hl : lv_has ls 3 [(0, .ref (o)), (1, .int (iZ (s)))] := hl
  have hM0 := hM; obtain ⟨hz, hO, hA1, hA2, hA3, hA4, hA5, hA6, hA7, hA8, hA9, hA10, hA11, hA12⟩ := hM0
  have hF : mF o H0 H0 := mF.rf
  refine pb_aload_n C dX3_left_0 rfl (lv_at hl 0 rfl) ?_
  refine pb_iload_n C dX3_left_1 rfl (lv_at hl 1 rfl) ?_
  refine pb_go_i (bc' := 0) (bs' := 0) (pb_runV (rest := []) C hG (met_X3_hasCells_1 l o S hM s hsr hs) hO.r (ci := 2) rfl (lw_V q1997 q1999 qs42 q60 q2000) ⟨rfl, hdX3_hasCells⟩ rfl hl.1 rfl (Nat.le_of_ble_eq_true rfl) ⟨(Nat.le_of_ble_eq_true rfl), (Nat.le_of_ble_eq_true rfl)⟩ dX3_left_2) (by omega) (by omega) (fun z_ H_ hp_ => ?_)
  obtain ⟨rfl, hM, hF⟩ := hp_
  refine pb_if_ne C dX3_left_5 (x := 0) (tgt := 10) (by decide) (by omega) (fun c5_ => ?_) (fun c5_ => ?_)
  · exact absurd c5_ (by decide)
  · refine pb_ic C dX3_left_8 ?_
    exact pb_iret C dX3_left_9 (⟨_, rfl, rfl, hM, hF⟩)

set_option maxHeartbeats 1000000 in
theorem met_X3_left_2 {w : pb_W} (l : Launch) {H0 : Heap} (o : Nat) (S : mS) (hM : MW w H0 o S) (s : Nat) (hs : s < 8) (hb : mok S) (hc : cnt (mg S s) = 0) : pb_M w l yX3_left cX3_left 3 (some .int) 6 (0) (0) [.ref (o), .int (iZ (((s : Nat) : Int)))] H0 (pb_qi (fun z H1 => z = 0 ∧ MW w H1 o (mI S 0 2) ∧ mF o H0 H1)) := by
  refine pb_of (by decide +kernel) (Nat.le_of_ble_eq_true rfl) ?_
  intro p_ e_ s_ m_ ar_ bl_ me_ co_ ls C hh hG hl
  have hl : lv_has ls 3 [(0, .ref (o)), (1, .int (iZ (((s : Nat) : Int))))] := hl
  have hM0 := hM; obtain ⟨hz, hO, hA1, hA2, hA3, hA4, hA5, hA6, hA7, hA8, hA9, hA10, hA11, hA12⟩ := hM0
  have hF : mF o H0 H0 := mF.rf
  refine pb_aload_n C dX3_left_0 rfl (lv_at hl 0 rfl) ?_
  refine pb_iload_n C dX3_left_1 rfl (lv_at hl 1 rfl) ?_
  refine pb_go_i (bc' := 0) (bs' := 0) (pb_runV (rest := []) C hG (met_X3_hasCells_2 l o S hM s hs hb hc) hO.r (ci := 2) rfl (lw_V q1997 q1999 qs42 q60 q2000) ⟨rfl, hdX3_hasCells⟩ rfl hl.1 rfl (Nat.le_of_ble_eq_true rfl) ⟨(Nat.le_of_ble_eq_true rfl), (Nat.le_of_ble_eq_true rfl)⟩ dX3_left_2) (by omega) (by omega) (fun z_ H_ hp_ => ?_)
  obtain ⟨rfl, hM, hF⟩ := hp_
  refine pb_if_ne C dX3_left_5 (x := 0) (tgt := 10) (by decide) (by omega) (fun c5_ => ?_) (fun c5_ => ?_)
  · exact absurd c5_ (by decide)
  · refine pb_ic C dX3_left_8 ?_
    exact pb_iret C dX3_left_9 (⟨_, rfl, rfl, hM, hF⟩)

set_option maxHeartbeats 1000000 in
theorem met_X3_right {w : pb_W} (l : Launch) {H0 : Heap} (o : Nat) (S : mS) (hM : MW w H0 o S) (s : Nat) (hs : s < 8) (hb : mok S) (hc : cnt (mg S s) ≠ 0) : pb_M w l yX3_right cX3_right 3 (some .int) 6 (0) (0) [.ref (o), .int (iZ (((s : Nat) : Int)))] H0 (pb_qi (fun z H1 => (∃ x : Nat, z = ((x : Nat) : Int) ∧ 1 ≤ x ∧ x ≤ 24 ∧ (shdw (mg S s) 24).testBit (x - 1) = true ∧ ∀ i, x ≤ i → i < 24 → (shdw (mg S s) 24).testBit i = false) ∧ MW w H1 o (mI S 0 0) ∧ mF o H0 H1)) := by
  refine pb_of (by decide +kernel) (Nat.le_of_ble_eq_true rfl) ?_
  intro p_ e_ s_ m_ ar_ bl_ me_ co_ ls C hh hG hl
  have hl : lv_has ls 3 [(0, .ref (o)), (1, .int (iZ (((s : Nat) : Int))))] := hl
  have hM0 := hM; obtain ⟨hz, hO, hA1, hA2, hA3, hA4, hA5, hA6, hA7, hA8, hA9, hA10, hA11, hA12⟩ := hM0
  have hF : mF o H0 H0 := mF.rf
  have L13 : ∀ (n_ : Nat) (k : Nat) (H : Heap), k = n_ → (pb_G w s_ H) → (MW w H o (mI S 0 0)) → (mF o H0 H) → (1 ≤ k ∧ k ≤ 24) → (∀ i, k ≤ i → i < 24 → (shdw (mg S s) 24).testBit i = false) → ∀ (ls : Array Slot), lv_has ls 3 [(0, .ref (o)), (1, .int (iZ (((s : Nat) : Int)))), (2, .int (iZ (((k : Nat) : Int))))] → pb_V w.2.2.2 p_ l e_ (pb_rm 6 (0) (0)) s_ m_ ar_ bl_ me_ co_ H (0) (0) (pb_E w bl_ ar_ s_ (0) (0) (pb_qi (fun z H1 => (∃ x : Nat, z = ((x : Nat) : Int) ∧ 1 ≤ x ∧ x ≤ 24 ∧ (shdw (mg S s) 24).testBit (x - 1) = true ∧ ∀ i, x ≤ i → i < 24 → (shdw (mg S s) 24).testBit i = false) ∧ MW w H1 o (mI S 0 0) ∧ mF o H0 H1))) (F0 m_ 13 ls []) := by
    intro n_
    induction n_ using Nat.strongRecOn with
    | _ n_ ih13 =>
    intro k H hm_ hG hM hF hk hl_ ls hl
    have hM0 := hM; obtain ⟨hz, hO, hA1, hA2, hA3, hA4, hA5, hA6, hA7, hA8, hA9, hA10, hA11, hA12⟩ := hM0
    have hO : pb_O w H o 2 [.int (iZ ((0))), .int (iZ ((S.1 1))), .ref (o + 1), .ref (o + 2), .ref (o + 3), .ref (o + 4), .ref (o + 5), .ref (o + 6), .ref (o + 7), .ref (o + 8), .ref (o + 9), .ref (o + 10), .ref (o + 11), .ref (o + 12), .int (iZ ((S.1 2))), .int (iZ ((S.1 3)))] := hO
    have hA1 : pb_A w H (o + 1) 0 192 (pb_nf (S.2.1 0)) := hA1
    have hA2 : pb_A w H (o + 2) 0 24 (pb_nf (S.2.1 1)) := hA2
    have hA3 : pb_A w H (o + 3) 0 26 (pb_nf (S.2.1 2)) := hA3
    have hA4 : pb_A w H (o + 4) 0 26 (pb_nf (S.2.1 3)) := hA4
    have hA5 : pb_A w H (o + 5) 0 40 (pb_zf (S.2.2 0)) := hA5
    have hA6 : pb_A w H (o + 6) 0 40 (pb_zf (S.2.2 1)) := hA6
    have hA7 : pb_A w H (o + 7) 0 576 (pb_zf (S.2.2 2)) := hA7
    have hA8 : pb_A w H (o + 8) 0 1300 (pb_zf (S.2.2 3)) := hA8
    have hA9 : pb_A w H (o + 9) 0 1300 (pb_zf (S.2.2 4)) := hA9
    have hA10 : pb_A w H (o + 10) 0 400 (pb_zf (S.2.2 5)) := hA10
    have hA11 : pb_A w H (o + 11) 0 400 (pb_zf (S.2.2 6)) := hA11
    have hA12 : pb_A w H (o + 12) 0 625 (pb_nf (S.2.1 4)) := hA12
    obtain ⟨xx, hxx, hxb⟩ := shade_bit (mg_ok hb hs) hc
    have hsl := shdw_lt (mg_ok hb hs) 24
    refine pb_aload_n C dX3_right_13 rfl (lv_at hl 0 rfl) ?_
    refine pb_iload_n C dX3_right_14 rfl (lv_at hl 1 rfl) ?_
    refine pb_go_x (bc' := 0) (bs' := 0) (pb_runV (rest := []) C hG (met_X3_shade l o (mI S 0 0) hM s hs hb) hO.r (ci := 2) rfl (lw_V q2001 q2003 qs43 q60 q2004) ⟨rfl, hdX3_shade⟩ rfl hl.1 rfl (Nat.le_of_ble_eq_true rfl) ⟨(Nat.le_of_ble_eq_true rfl), (Nat.le_of_ble_eq_true rfl)⟩ dX3_right_15) (by omega) (by omega) ?_
    refine pb_eq (g2 := F0 m_ 18 ls [.int (iZ ((((shdw (mg S s) 24) : Nat) : Int)))]) (congrArg (fun z9 => F0 m_ 18 ls [.int (iZ z9)]) (show (((shdw (mg (mI S 0 0) s) 24) : Nat) : Int) = (((shdw (mg S s) 24) : Nat) : Int) from rfl)) ?_
    refine pb_iload_n C dX3_right_18 rfl (lv_at hl 2 rfl) ?_
    refine pb_ic C dX3_right_19 ?_
    refine pb_isub C dX3_right_20 ?_
    refine pb_eq (g2 := F0 m_ 21 ls [.int (iZ ((((k - 1) : Nat) : Int))), .int (iZ ((((shdw (mg S s) 24) : Nat) : Int)))]) (congrArg (fun z9 => F0 m_ 21 ls [.int (iZ z9), .int (iZ ((((shdw (mg S s) 24) : Nat) : Int)))]) (show (((k : Nat) : Int) - 1) = (((k - 1) : Nat) : Int) from (by omega))) ?_
    refine pb_ishr C dX3_right_21 (x := (shdw (mg S s) 24)) (y := (k - 1)) (by omega) (by omega) ?_
    refine pb_ic C dX3_right_22 ?_
    refine pb_iand C dX3_right_23 (x := ((shdw (mg S s) 24) >>> (k - 1))) (y := 1) ?_
    refine pb_if_ne C dX3_right_24 (x := (((((shdw (mg S s) 24) >>> (k - 1)) &&& 1) : Nat) : Int)) (tgt := 33) (by decide) (by have := pb_a1 ((shdw (mg S s) 24) >>> (k - 1)); omega) (fun c24_ => ?_) (fun c24_ => ?_)
    · have hbit : (shdw (mg S s) 24).testBit (k - 1) = true := bit_t c24_
      refine pb_iload_n C dX3_right_33 rfl (lv_at hl 2 rfl) ?_
      exact pb_iret C dX3_right_34 (⟨_, rfl, ⟨k, rfl, hk.1, hk.2, hbit, hl_⟩, hM, hF⟩)
    · have hbit : (shdw (mg S s) 24).testBit (k - 1) = false := (and1_bit _ _).mp (Int.ofNat.inj c24_)
      have hk1 : 1 ≤ k - 1 ∧ k - 1 ≤ 24 := dn_step (p := fun i => (shdw (mg S s) 24).testBit i = false) hxx (by rw [hxb]; decide) hl_ hbit hk
      refine pb_iinc C dX3_right_27 hl (j := 2) (x := (((k : Nat) : Int))) rfl (by decide) rfl fun ls hl => ?_
      have hl : lv_has ls 3 [(2, .int (iZ ((((k : Nat) : Int) + (-1))))), (0, .ref (o)), (1, .int (iZ (((s : Nat) : Int))))] := hl
      rw [show (((k : Nat) : Int) + (-1)) = (((k - 1) : Nat) : Int) from by omega] at hl
      refine pb_goto C dX3_right_30 (tgt := 13) (by decide) ?_
      exact pb_V.mono (by omega) (by omega) (ih13 _ (by omega) (k - 1) H rfl hG hM hF hk1 (ext_ge24 hl_ hbit) ls (lv_sub hl [1, 2, 0] rfl))
  refine pb_aload_n C dX3_right_0 rfl (lv_at hl 0 rfl) ?_
  refine pb_iload_n C dX3_right_1 rfl (lv_at hl 1 rfl) ?_
  refine pb_go_i (bc' := 0) (bs' := 0) (pb_runV (rest := []) C hG (met_X3_hasCells l o S hM s hs hb hc) hO.r (ci := 2) rfl (lw_V q1997 q1999 qs42 q60 q2000) ⟨rfl, hdX3_hasCells⟩ rfl hl.1 rfl (Nat.le_of_ble_eq_true rfl) ⟨(Nat.le_of_ble_eq_true rfl), (Nat.le_of_ble_eq_true rfl)⟩ dX3_right_2) (by omega) (by omega) (fun z_ H_ hp_ => ?_)
  obtain ⟨rfl, hM, hF⟩ := hp_
  have hG := hG.kept (hF.z hz)
  have hO := hM.2.1
  refine pb_if_ne C dX3_right_5 (x := 1) (tgt := 10) (by decide) (by omega) (fun c5_ => ?_) (fun c5_ => ?_)
  · refine pb_bip C dX3_right_10 (by decide) ?_
    refine pb_istore_n C dX3_right_12 rfl hl (by decide) rfl fun ls hl => ?_
    have hl : lv_has ls 3 [(2, .int (iZ (24))), (0, .ref (o)), (1, .int (iZ (((s : Nat) : Int))))] := hl
    exact pb_V.mono (by omega) (by omega) (L13 _ 24 H_ rfl hG hM hF (by omega) (fun i h1 h2 => absurd h1 (by omega)) ls (lv_sub hl [1, 2, 0] rfl))
  · exact absurd c5_ (by decide)

set_option maxHeartbeats 1000000 in
theorem met_X3_right_1 {w : pb_W} (l : Launch) {H0 : Heap} (o : Nat) (S : mS) (hM : MW w H0 o S) (s : Int) (hsr : -2147483648 ≤ s ∧ s ≤ 2147483647) (hs : ¬ (0 ≤ s ∧ s ≤ 7)) : pb_M w l yX3_right cX3_right 3 (some .int) 6 (0) (0) [.ref (o), .int (iZ (s))] H0 (pb_qi (fun z H1 => z = 0 ∧ MW w H1 o (mI S 0 1) ∧ mF o H0 H1)) := by
  refine pb_of (by decide +kernel) (Nat.le_of_ble_eq_true rfl) ?_
  intro p_ e_ s_ m_ ar_ bl_ me_ co_ ls C hh hG hl
  have hl : lv_has ls 3 [(0, .ref (o)), (1, .int (iZ (s)))] := hl
  have hM0 := hM; obtain ⟨hz, hO, hA1, hA2, hA3, hA4, hA5, hA6, hA7, hA8, hA9, hA10, hA11, hA12⟩ := hM0
  have hF : mF o H0 H0 := mF.rf
  refine pb_aload_n C dX3_right_0 rfl (lv_at hl 0 rfl) ?_
  refine pb_iload_n C dX3_right_1 rfl (lv_at hl 1 rfl) ?_
  refine pb_go_i (bc' := 0) (bs' := 0) (pb_runV (rest := []) C hG (met_X3_hasCells_1 l o S hM s hsr hs) hO.r (ci := 2) rfl (lw_V q1997 q1999 qs42 q60 q2000) ⟨rfl, hdX3_hasCells⟩ rfl hl.1 rfl (Nat.le_of_ble_eq_true rfl) ⟨(Nat.le_of_ble_eq_true rfl), (Nat.le_of_ble_eq_true rfl)⟩ dX3_right_2) (by omega) (by omega) (fun z_ H_ hp_ => ?_)
  obtain ⟨rfl, hM, hF⟩ := hp_
  refine pb_if_ne C dX3_right_5 (x := 0) (tgt := 10) (by decide) (by omega) (fun c5_ => ?_) (fun c5_ => ?_)
  · exact absurd c5_ (by decide)
  · refine pb_ic C dX3_right_8 ?_
    exact pb_iret C dX3_right_9 (⟨_, rfl, rfl, hM, hF⟩)

set_option maxHeartbeats 1000000 in
theorem met_X3_right_2 {w : pb_W} (l : Launch) {H0 : Heap} (o : Nat) (S : mS) (hM : MW w H0 o S) (s : Nat) (hs : s < 8) (hb : mok S) (hc : cnt (mg S s) = 0) : pb_M w l yX3_right cX3_right 3 (some .int) 6 (0) (0) [.ref (o), .int (iZ (((s : Nat) : Int)))] H0 (pb_qi (fun z H1 => z = 0 ∧ MW w H1 o (mI S 0 2) ∧ mF o H0 H1)) := by
  refine pb_of (by decide +kernel) (Nat.le_of_ble_eq_true rfl) ?_
  intro p_ e_ s_ m_ ar_ bl_ me_ co_ ls C hh hG hl
  have hl : lv_has ls 3 [(0, .ref (o)), (1, .int (iZ (((s : Nat) : Int))))] := hl
  have hM0 := hM; obtain ⟨hz, hO, hA1, hA2, hA3, hA4, hA5, hA6, hA7, hA8, hA9, hA10, hA11, hA12⟩ := hM0
  have hF : mF o H0 H0 := mF.rf
  refine pb_aload_n C dX3_right_0 rfl (lv_at hl 0 rfl) ?_
  refine pb_iload_n C dX3_right_1 rfl (lv_at hl 1 rfl) ?_
  refine pb_go_i (bc' := 0) (bs' := 0) (pb_runV (rest := []) C hG (met_X3_hasCells_2 l o S hM s hs hb hc) hO.r (ci := 2) rfl (lw_V q1997 q1999 qs42 q60 q2000) ⟨rfl, hdX3_hasCells⟩ rfl hl.1 rfl (Nat.le_of_ble_eq_true rfl) ⟨(Nat.le_of_ble_eq_true rfl), (Nat.le_of_ble_eq_true rfl)⟩ dX3_right_2) (by omega) (by omega) (fun z_ H_ hp_ => ?_)
  obtain ⟨rfl, hM, hF⟩ := hp_
  refine pb_if_ne C dX3_right_5 (x := 0) (tgt := 10) (by decide) (by omega) (fun c5_ => ?_) (fun c5_ => ?_)
  · exact absurd c5_ (by decide)
  · refine pb_ic C dX3_right_8 ?_
    exact pb_iret C dX3_right_9 (⟨_, rfl, rfl, hM, hF⟩)

set_option maxHeartbeats 1000000 in
theorem met_X3_bottom {w : pb_W} (l : Launch) {H0 : Heap} (o : Nat) (S : mS) (hM : MW w H0 o S) (s : Nat) (hs : s < 8) (hb : mok S) (hc : cnt (mg S s) ≠ 0) : pb_M w l yX3_bottom cX3_bottom 3 (some .int) 6 (0) (0) [.ref (o), .int (iZ (((s : Nat) : Int)))] H0 (pb_qi (fun z H1 => (∃ x : Nat, z = ((x : Nat) : Int) ∧ x < 24 ∧ (mg S s) x ≠ 0 ∧ ∀ i, i < x → (mg S s) i = 0) ∧ MW w H1 o (mI S 0 0) ∧ mF o H0 H1)) := by
  refine pb_of (by decide +kernel) (Nat.le_of_ble_eq_true rfl) ?_
  intro p_ e_ s_ m_ ar_ bl_ me_ co_ ls C hh hG hl
  have hl : lv_has ls 3 [(0, .ref (o)), (1, .int (iZ (((s : Nat) : Int))))] := hl
  have hM0 := hM; obtain ⟨hz, hO, hA1, hA2, hA3, hA4, hA5, hA6, hA7, hA8, hA9, hA10, hA11, hA12⟩ := hM0
  have hF : mF o H0 H0 := mF.rf
  have L12 : ∀ (n_ : Nat) (k : Nat) (H : Heap), 24 - k = n_ → (pb_G w s_ H) → (MW w H o (mI S 0 0)) → (mF o H0 H) → (k ≤ 23) → (∀ i, i < k → (mg S s) i = 0) → ∀ (ls : Array Slot), lv_has ls 3 [(0, .ref (o)), (1, .int (iZ (((s : Nat) : Int)))), (2, .int (iZ (((k : Nat) : Int))))] → pb_V w.2.2.2 p_ l e_ (pb_rm 6 (0) (0)) s_ m_ ar_ bl_ me_ co_ H (0) (0) (pb_E w bl_ ar_ s_ (0) (0) (pb_qi (fun z H1 => (∃ x : Nat, z = ((x : Nat) : Int) ∧ x < 24 ∧ (mg S s) x ≠ 0 ∧ ∀ i, i < x → (mg S s) i = 0) ∧ MW w H1 o (mI S 0 0) ∧ mF o H0 H1))) (F0 m_ 12 ls []) := by
    intro n_
    induction n_ using Nat.strongRecOn with
    | _ n_ ih12 =>
    intro k H hm_ hG hM hF hk hl_ ls hl
    have hM0 := hM; obtain ⟨hz, hO, hA1, hA2, hA3, hA4, hA5, hA6, hA7, hA8, hA9, hA10, hA11, hA12⟩ := hM0
    have hO : pb_O w H o 2 [.int (iZ ((0))), .int (iZ ((S.1 1))), .ref (o + 1), .ref (o + 2), .ref (o + 3), .ref (o + 4), .ref (o + 5), .ref (o + 6), .ref (o + 7), .ref (o + 8), .ref (o + 9), .ref (o + 10), .ref (o + 11), .ref (o + 12), .int (iZ ((S.1 2))), .int (iZ ((S.1 3)))] := hO
    have hA1 : pb_A w H (o + 1) 0 192 (pb_nf (S.2.1 0)) := hA1
    have hA2 : pb_A w H (o + 2) 0 24 (pb_nf (S.2.1 1)) := hA2
    have hA3 : pb_A w H (o + 3) 0 26 (pb_nf (S.2.1 2)) := hA3
    have hA4 : pb_A w H (o + 4) 0 26 (pb_nf (S.2.1 3)) := hA4
    have hA5 : pb_A w H (o + 5) 0 40 (pb_zf (S.2.2 0)) := hA5
    have hA6 : pb_A w H (o + 6) 0 40 (pb_zf (S.2.2 1)) := hA6
    have hA7 : pb_A w H (o + 7) 0 576 (pb_zf (S.2.2 2)) := hA7
    have hA8 : pb_A w H (o + 8) 0 1300 (pb_zf (S.2.2 3)) := hA8
    have hA9 : pb_A w H (o + 9) 0 1300 (pb_zf (S.2.2 4)) := hA9
    have hA10 : pb_A w H (o + 10) 0 400 (pb_zf (S.2.2 5)) := hA10
    have hA11 : pb_A w H (o + 11) 0 400 (pb_zf (S.2.2 6)) := hA11
    have hA12 : pb_A w H (o + 12) 0 625 (pb_nf (S.2.1 4)) := hA12
    obtain ⟨yy, hyy, hyb⟩ := cnt_row hc
    have hgk := (mg_ok hb hs).1 k
    refine pb_aload_n C dX3_bottom_12 rfl (lv_at hl 0 rfl) ?_
    refine pb_iload_n C dX3_bottom_13 rfl (lv_at hl 1 rfl) ?_
    refine pb_iload_n C dX3_bottom_14 rfl (lv_at hl 2 rfl) ?_
    refine pb_go_x (bc' := 0) (bs' := 0) (pb_runV (rest := []) C hG (met_X3_row l o (mI S 0 0) hM s (by omega) (((k : Nat) : Int)) (by omega)) hO.r (ci := 2) rfl (lw_V q1807 q1809 qs28 q60 q1810) ⟨rfl, hdX3_row⟩ rfl hl.1 rfl (Nat.le_of_ble_eq_true rfl) ⟨(Nat.le_of_ble_eq_true rfl), (Nat.le_of_ble_eq_true rfl)⟩ dX3_bottom_15) (by omega) (by omega) ?_
    refine pb_eq (g2 := F0 m_ 18 ls [.int (iZ (((((mg S s) k) : Nat) : Int)))]) (congrArg (fun z9 => F0 m_ 18 ls [.int (iZ z9)]) (show (((gr (mg (mI S 0 0) s) (((k : Nat) : Int))) : Nat) : Int) = ((((mg S s) k) : Nat) : Int) from congrArg (fun n : Nat => (n : Int)) (gr_nat (mg S s) k))) ?_
    refine pb_if_ne C dX3_bottom_18 (x := ((((mg S s) k) : Nat) : Int)) (tgt := 27) (by decide) (by omega) (fun c18_ => ?_) (fun c18_ => ?_)
    · refine pb_iload_n C dX3_bottom_27 rfl (lv_at hl 2 rfl) ?_
      exact pb_iret C dX3_bottom_28 (⟨_, rfl, ⟨k, rfl, by omega, by omega, hl_⟩, hM, hF⟩)
    · have hz0 : (mg S s) k = 0 := by omega
      have hk1 : k + 1 ≤ 23 := up_step (p := fun i => (mg S s) i = 0) hyy hyb hl_ hz0 hk
      refine pb_iinc C dX3_bottom_21 hl (j := 2) (x := (((k : Nat) : Int))) rfl (by decide) rfl fun ls hl => ?_
      have hl : lv_has ls 3 [(2, .int (iZ ((((k + 1) : Nat) : Int)))), (0, .ref (o)), (1, .int (iZ (((s : Nat) : Int))))] := hl
      refine pb_goto C dX3_bottom_24 (tgt := 12) (by decide) ?_
      exact pb_V.mono (by omega) (by omega) (ih12 _ (by omega) (k + 1) H rfl hG hM hF hk1 (lt_s hl_ hz0) ls (lv_sub hl [1, 2, 0] rfl))
  refine pb_aload_n C dX3_bottom_0 rfl (lv_at hl 0 rfl) ?_
  refine pb_iload_n C dX3_bottom_1 rfl (lv_at hl 1 rfl) ?_
  refine pb_go_i (bc' := 0) (bs' := 0) (pb_runV (rest := []) C hG (met_X3_hasCells l o S hM s hs hb hc) hO.r (ci := 2) rfl (lw_V q1997 q1999 qs42 q60 q2000) ⟨rfl, hdX3_hasCells⟩ rfl hl.1 rfl (Nat.le_of_ble_eq_true rfl) ⟨(Nat.le_of_ble_eq_true rfl), (Nat.le_of_ble_eq_true rfl)⟩ dX3_bottom_2) (by omega) (by omega) (fun z_ H_ hp_ => ?_)
  obtain ⟨rfl, hM, hF⟩ := hp_
  have hG := hG.kept (hF.z hz)
  have hO := hM.2.1
  refine pb_if_ne C dX3_bottom_5 (x := 1) (tgt := 10) (by decide) (by omega) (fun c5_ => ?_) (fun c5_ => ?_)
  · refine pb_ic C dX3_bottom_10 ?_
    refine pb_istore_n C dX3_bottom_11 rfl hl (by decide) rfl fun ls hl => ?_
    have hl : lv_has ls 3 [(2, .int (iZ (0))), (0, .ref (o)), (1, .int (iZ (((s : Nat) : Int))))] := hl
    exact pb_V.mono (by omega) (by omega) (L12 _ 0 H_ rfl hG hM hF (by omega) (fun i hi => absurd hi (by omega)) ls (lv_sub hl [1, 2, 0] rfl))
  · exact absurd c5_ (by decide)

set_option maxHeartbeats 1000000 in
theorem met_X3_bottom_1 {w : pb_W} (l : Launch) {H0 : Heap} (o : Nat) (S : mS) (hM : MW w H0 o S) (s : Int) (hsr : -2147483648 ≤ s ∧ s ≤ 2147483647) (hs : ¬ (0 ≤ s ∧ s ≤ 7)) : pb_M w l yX3_bottom cX3_bottom 3 (some .int) 6 (0) (0) [.ref (o), .int (iZ (s))] H0 (pb_qi (fun z H1 => z = 0 ∧ MW w H1 o (mI S 0 1) ∧ mF o H0 H1)) := by
  refine pb_of (by decide +kernel) (Nat.le_of_ble_eq_true rfl) ?_
  intro p_ e_ s_ m_ ar_ bl_ me_ co_ ls C hh hG hl
  have hl : lv_has ls 3 [(0, .ref (o)), (1, .int (iZ (s)))] := hl
  have hM0 := hM; obtain ⟨hz, hO, hA1, hA2, hA3, hA4, hA5, hA6, hA7, hA8, hA9, hA10, hA11, hA12⟩ := hM0
  have hF : mF o H0 H0 := mF.rf
  refine pb_aload_n C dX3_bottom_0 rfl (lv_at hl 0 rfl) ?_
  refine pb_iload_n C dX3_bottom_1 rfl (lv_at hl 1 rfl) ?_
  refine pb_go_i (bc' := 0) (bs' := 0) (pb_runV (rest := []) C hG (met_X3_hasCells_1 l o S hM s hsr hs) hO.r (ci := 2) rfl (lw_V q1997 q1999 qs42 q60 q2000) ⟨rfl, hdX3_hasCells⟩ rfl hl.1 rfl (Nat.le_of_ble_eq_true rfl) ⟨(Nat.le_of_ble_eq_true rfl), (Nat.le_of_ble_eq_true rfl)⟩ dX3_bottom_2) (by omega) (by omega) (fun z_ H_ hp_ => ?_)
  obtain ⟨rfl, hM, hF⟩ := hp_
  refine pb_if_ne C dX3_bottom_5 (x := 0) (tgt := 10) (by decide) (by omega) (fun c5_ => ?_) (fun c5_ => ?_)
  · exact absurd c5_ (by decide)
  · refine pb_ic C dX3_bottom_8 ?_
    exact pb_iret C dX3_bottom_9 (⟨_, rfl, rfl, hM, hF⟩)

set_option maxHeartbeats 1000000 in
theorem met_X3_bottom_2 {w : pb_W} (l : Launch) {H0 : Heap} (o : Nat) (S : mS) (hM : MW w H0 o S) (s : Nat) (hs : s < 8) (hb : mok S) (hc : cnt (mg S s) = 0) : pb_M w l yX3_bottom cX3_bottom 3 (some .int) 6 (0) (0) [.ref (o), .int (iZ (((s : Nat) : Int)))] H0 (pb_qi (fun z H1 => z = 0 ∧ MW w H1 o (mI S 0 2) ∧ mF o H0 H1)) := by
  refine pb_of (by decide +kernel) (Nat.le_of_ble_eq_true rfl) ?_
  intro p_ e_ s_ m_ ar_ bl_ me_ co_ ls C hh hG hl
  have hl : lv_has ls 3 [(0, .ref (o)), (1, .int (iZ (((s : Nat) : Int))))] := hl
  have hM0 := hM; obtain ⟨hz, hO, hA1, hA2, hA3, hA4, hA5, hA6, hA7, hA8, hA9, hA10, hA11, hA12⟩ := hM0
  have hF : mF o H0 H0 := mF.rf
  refine pb_aload_n C dX3_bottom_0 rfl (lv_at hl 0 rfl) ?_
  refine pb_iload_n C dX3_bottom_1 rfl (lv_at hl 1 rfl) ?_
  refine pb_go_i (bc' := 0) (bs' := 0) (pb_runV (rest := []) C hG (met_X3_hasCells_2 l o S hM s hs hb hc) hO.r (ci := 2) rfl (lw_V q1997 q1999 qs42 q60 q2000) ⟨rfl, hdX3_hasCells⟩ rfl hl.1 rfl (Nat.le_of_ble_eq_true rfl) ⟨(Nat.le_of_ble_eq_true rfl), (Nat.le_of_ble_eq_true rfl)⟩ dX3_bottom_2) (by omega) (by omega) (fun z_ H_ hp_ => ?_)
  obtain ⟨rfl, hM, hF⟩ := hp_
  refine pb_if_ne C dX3_bottom_5 (x := 0) (tgt := 10) (by decide) (by omega) (fun c5_ => ?_) (fun c5_ => ?_)
  · exact absurd c5_ (by decide)
  · refine pb_ic C dX3_bottom_8 ?_
    exact pb_iret C dX3_bottom_9 (⟨_, rfl, rfl, hM, hF⟩)

set_option maxHeartbeats 1000000 in
theorem met_X3_top {w : pb_W} (l : Launch) {H0 : Heap} (o : Nat) (S : mS) (hM : MW w H0 o S) (s : Nat) (hs : s < 8) (hb : mok S) (hc : cnt (mg S s) ≠ 0) : pb_M w l yX3_top cX3_top 3 (some .int) 6 (0) (0) [.ref (o), .int (iZ (((s : Nat) : Int)))] H0 (pb_qi (fun z H1 => (∃ x : Nat, z = ((x : Nat) : Int) ∧ 1 ≤ x ∧ x ≤ 24 ∧ (mg S s) (x - 1) ≠ 0 ∧ ∀ i, x ≤ i → (mg S s) i = 0) ∧ MW w H1 o (mI S 0 0) ∧ mF o H0 H1)) := by
  refine pb_of (by decide +kernel) (Nat.le_of_ble_eq_true rfl) ?_
  intro p_ e_ s_ m_ ar_ bl_ me_ co_ ls C hh hG hl
  have hl : lv_has ls 3 [(0, .ref (o)), (1, .int (iZ (((s : Nat) : Int))))] := hl
  have hM0 := hM; obtain ⟨hz, hO, hA1, hA2, hA3, hA4, hA5, hA6, hA7, hA8, hA9, hA10, hA11, hA12⟩ := hM0
  have hF : mF o H0 H0 := mF.rf
  have L13 : ∀ (n_ : Nat) (k : Nat) (H : Heap), k = n_ → (pb_G w s_ H) → (MW w H o (mI S 0 0)) → (mF o H0 H) → (1 ≤ k ∧ k ≤ 24) → (∀ i, k ≤ i → (mg S s) i = 0) → ∀ (ls : Array Slot), lv_has ls 3 [(0, .ref (o)), (1, .int (iZ (((s : Nat) : Int)))), (2, .int (iZ (((k : Nat) : Int))))] → pb_V w.2.2.2 p_ l e_ (pb_rm 6 (0) (0)) s_ m_ ar_ bl_ me_ co_ H (0) (0) (pb_E w bl_ ar_ s_ (0) (0) (pb_qi (fun z H1 => (∃ x : Nat, z = ((x : Nat) : Int) ∧ 1 ≤ x ∧ x ≤ 24 ∧ (mg S s) (x - 1) ≠ 0 ∧ ∀ i, x ≤ i → (mg S s) i = 0) ∧ MW w H1 o (mI S 0 0) ∧ mF o H0 H1))) (F0 m_ 13 ls []) := by
    intro n_
    induction n_ using Nat.strongRecOn with
    | _ n_ ih13 =>
    intro k H hm_ hG hM hF hk hl_ ls hl
    have hM0 := hM; obtain ⟨hz, hO, hA1, hA2, hA3, hA4, hA5, hA6, hA7, hA8, hA9, hA10, hA11, hA12⟩ := hM0
    have hO : pb_O w H o 2 [.int (iZ ((0))), .int (iZ ((S.1 1))), .ref (o + 1), .ref (o + 2), .ref (o + 3), .ref (o + 4), .ref (o + 5), .ref (o + 6), .ref (o + 7), .ref (o + 8), .ref (o + 9), .ref (o + 10), .ref (o + 11), .ref (o + 12), .int (iZ ((S.1 2))), .int (iZ ((S.1 3)))] := hO
    have hA1 : pb_A w H (o + 1) 0 192 (pb_nf (S.2.1 0)) := hA1
    have hA2 : pb_A w H (o + 2) 0 24 (pb_nf (S.2.1 1)) := hA2
    have hA3 : pb_A w H (o + 3) 0 26 (pb_nf (S.2.1 2)) := hA3
    have hA4 : pb_A w H (o + 4) 0 26 (pb_nf (S.2.1 3)) := hA4
    have hA5 : pb_A w H (o + 5) 0 40 (pb_zf (S.2.2 0)) := hA5
    have hA6 : pb_A w H (o + 6) 0 40 (pb_zf (S.2.2 1)) := hA6
    have hA7 : pb_A w H (o + 7) 0 576 (pb_zf (S.2.2 2)) := hA7
    have hA8 : pb_A w H (o + 8) 0 1300 (pb_zf (S.2.2 3)) := hA8
    have hA9 : pb_A w H (o + 9) 0 1300 (pb_zf (S.2.2 4)) := hA9
    have hA10 : pb_A w H (o + 10) 0 400 (pb_zf (S.2.2 5)) := hA10
    have hA11 : pb_A w H (o + 11) 0 400 (pb_zf (S.2.2 6)) := hA11
    have hA12 : pb_A w H (o + 12) 0 625 (pb_nf (S.2.1 4)) := hA12
    obtain ⟨yy, hyy, hyb⟩ := cnt_row hc
    have hgk := (mg_ok hb hs).1 (k - 1)
    refine pb_aload_n C dX3_top_13 rfl (lv_at hl 0 rfl) ?_
    refine pb_iload_n C dX3_top_14 rfl (lv_at hl 1 rfl) ?_
    refine pb_iload_n C dX3_top_15 rfl (lv_at hl 2 rfl) ?_
    refine pb_ic C dX3_top_16 ?_
    refine pb_isub C dX3_top_17 ?_
    refine pb_go_x (bc' := 0) (bs' := 0) (pb_runV (rest := []) C hG (met_X3_row l o (mI S 0 0) hM s (by omega) ((((k : Nat) : Int) - 1)) (by omega)) hO.r (ci := 2) rfl (lw_V q1807 q1809 qs28 q60 q1810) ⟨rfl, hdX3_row⟩ rfl hl.1 rfl (Nat.le_of_ble_eq_true rfl) ⟨(Nat.le_of_ble_eq_true rfl), (Nat.le_of_ble_eq_true rfl)⟩ dX3_top_18) (by omega) (by omega) ?_
    refine pb_eq (g2 := F0 m_ 21 ls [.int (iZ (((((mg S s) (k - 1)) : Nat) : Int)))]) (congrArg (fun z9 => F0 m_ 21 ls [.int (iZ z9)]) (show (((gr (mg (mI S 0 0) s) ((((k : Nat) : Int) - 1))) : Nat) : Int) = ((((mg S s) (k - 1)) : Nat) : Int) from congrArg (fun n : Nat => (n : Int)) (gr_of (g := (mg S s)) (k := k - 1) (by omega)))) ?_
    refine pb_if_ne C dX3_top_21 (x := ((((mg S s) (k - 1)) : Nat) : Int)) (tgt := 30) (by decide) (by omega) (fun c21_ => ?_) (fun c21_ => ?_)
    · refine pb_iload_n C dX3_top_30 rfl (lv_at hl 2 rfl) ?_
      exact pb_iret C dX3_top_31 (⟨_, rfl, ⟨k, rfl, hk.1, hk.2, by omega, hl_⟩, hM, hF⟩)
    · have hz0 : (mg S s) (k - 1) = 0 := by omega
      have hk1 : 1 ≤ k - 1 ∧ k - 1 ≤ 24 := dn_step (p := fun i => (mg S s) i = 0) hyy hyb (fun i h1 _ => hl_ i h1) hz0 hk
      refine pb_iinc C dX3_top_24 hl (j := 2) (x := (((k : Nat) : Int))) rfl (by decide) rfl fun ls hl => ?_
      have hl : lv_has ls 3 [(2, .int (iZ ((((k : Nat) : Int) + (-1))))), (0, .ref (o)), (1, .int (iZ (((s : Nat) : Int))))] := hl
      rw [show (((k : Nat) : Int) + (-1)) = (((k - 1) : Nat) : Int) from by omega] at hl
      refine pb_goto C dX3_top_27 (tgt := 13) (by decide) ?_
      exact pb_V.mono (by omega) (by omega) (ih13 _ (by omega) (k - 1) H rfl hG hM hF hk1 (ext_ge hl_ hz0) ls (lv_sub hl [1, 2, 0] rfl))
  refine pb_aload_n C dX3_top_0 rfl (lv_at hl 0 rfl) ?_
  refine pb_iload_n C dX3_top_1 rfl (lv_at hl 1 rfl) ?_
  refine pb_go_i (bc' := 0) (bs' := 0) (pb_runV (rest := []) C hG (met_X3_hasCells l o S hM s hs hb hc) hO.r (ci := 2) rfl (lw_V q1997 q1999 qs42 q60 q2000) ⟨rfl, hdX3_hasCells⟩ rfl hl.1 rfl (Nat.le_of_ble_eq_true rfl) ⟨(Nat.le_of_ble_eq_true rfl), (Nat.le_of_ble_eq_true rfl)⟩ dX3_top_2) (by omega) (by omega) (fun z_ H_ hp_ => ?_)
  obtain ⟨rfl, hM, hF⟩ := hp_
  have hG := hG.kept (hF.z hz)
  have hO := hM.2.1
  refine pb_if_ne C dX3_top_5 (x := 1) (tgt := 10) (by decide) (by omega) (fun c5_ => ?_) (fun c5_ => ?_)
  · refine pb_bip C dX3_top_10 (by decide) ?_
    refine pb_istore_n C dX3_top_12 rfl hl (by decide) rfl fun ls hl => ?_
    have hl : lv_has ls 3 [(2, .int (iZ (24))), (0, .ref (o)), (1, .int (iZ (((s : Nat) : Int))))] := hl
    exact pb_V.mono (by omega) (by omega) (L13 _ 24 H_ rfl hG hM hF (by omega) (fun i h1 => (mg_ok hb hs).2 i h1) ls (lv_sub hl [1, 2, 0] rfl))
  · exact absurd c5_ (by decide)

set_option maxHeartbeats 1000000 in
theorem met_X3_top_1 {w : pb_W} (l : Launch) {H0 : Heap} (o : Nat) (S : mS) (hM : MW w H0 o S) (s : Int) (hsr : -2147483648 ≤ s ∧ s ≤ 2147483647) (hs : ¬ (0 ≤ s ∧ s ≤ 7)) : pb_M w l yX3_top cX3_top 3 (some .int) 6 (0) (0) [.ref (o), .int (iZ (s))] H0 (pb_qi (fun z H1 => z = 0 ∧ MW w H1 o (mI S 0 1) ∧ mF o H0 H1)) := by
  refine pb_of (by decide +kernel) (Nat.le_of_ble_eq_true rfl) ?_
  intro p_ e_ s_ m_ ar_ bl_ me_ co_ ls C hh hG hl
  have hl : lv_has ls 3 [(0, .ref (o)), (1, .int (iZ (s)))] := hl
  have hM0 := hM; obtain ⟨hz, hO, hA1, hA2, hA3, hA4, hA5, hA6, hA7, hA8, hA9, hA10, hA11, hA12⟩ := hM0
  have hF : mF o H0 H0 := mF.rf
  refine pb_aload_n C dX3_top_0 rfl (lv_at hl 0 rfl) ?_
  refine pb_iload_n C dX3_top_1 rfl (lv_at hl 1 rfl) ?_
  refine pb_go_i (bc' := 0) (bs' := 0) (pb_runV (rest := []) C hG (met_X3_hasCells_1 l o S hM s hsr hs) hO.r (ci := 2) rfl (lw_V q1997 q1999 qs42 q60 q2000) ⟨rfl, hdX3_hasCells⟩ rfl hl.1 rfl (Nat.le_of_ble_eq_true rfl) ⟨(Nat.le_of_ble_eq_true rfl), (Nat.le_of_ble_eq_true rfl)⟩ dX3_top_2) (by omega) (by omega) (fun z_ H_ hp_ => ?_)
  obtain ⟨rfl, hM, hF⟩ := hp_
  refine pb_if_ne C dX3_top_5 (x := 0) (tgt := 10) (by decide) (by omega) (fun c5_ => ?_) (fun c5_ => ?_)
  · exact absurd c5_ (by decide)
  · refine pb_ic C dX3_top_8 ?_
    exact pb_iret C dX3_top_9 (⟨_, rfl, rfl, hM, hF⟩)

set_option maxHeartbeats 1000000 in
theorem met_X3_top_2 {w : pb_W} (l : Launch) {H0 : Heap} (o : Nat) (S : mS) (hM : MW w H0 o S) (s : Nat) (hs : s < 8) (hb : mok S) (hc : cnt (mg S s) = 0) : pb_M w l yX3_top cX3_top 3 (some .int) 6 (0) (0) [.ref (o), .int (iZ (((s : Nat) : Int)))] H0 (pb_qi (fun z H1 => z = 0 ∧ MW w H1 o (mI S 0 2) ∧ mF o H0 H1)) := by
  refine pb_of (by decide +kernel) (Nat.le_of_ble_eq_true rfl) ?_
  intro p_ e_ s_ m_ ar_ bl_ me_ co_ ls C hh hG hl
  have hl : lv_has ls 3 [(0, .ref (o)), (1, .int (iZ (((s : Nat) : Int))))] := hl
  have hM0 := hM; obtain ⟨hz, hO, hA1, hA2, hA3, hA4, hA5, hA6, hA7, hA8, hA9, hA10, hA11, hA12⟩ := hM0
  have hF : mF o H0 H0 := mF.rf
  refine pb_aload_n C dX3_top_0 rfl (lv_at hl 0 rfl) ?_
  refine pb_iload_n C dX3_top_1 rfl (lv_at hl 1 rfl) ?_
  refine pb_go_i (bc' := 0) (bs' := 0) (pb_runV (rest := []) C hG (met_X3_hasCells_2 l o S hM s hs hb hc) hO.r (ci := 2) rfl (lw_V q1997 q1999 qs42 q60 q2000) ⟨rfl, hdX3_hasCells⟩ rfl hl.1 rfl (Nat.le_of_ble_eq_true rfl) ⟨(Nat.le_of_ble_eq_true rfl), (Nat.le_of_ble_eq_true rfl)⟩ dX3_top_2) (by omega) (by omega) (fun z_ H_ hp_ => ?_)
  obtain ⟨rfl, hM, hF⟩ := hp_
  refine pb_if_ne C dX3_top_5 (x := 0) (tgt := 10) (by decide) (by omega) (fun c5_ => ?_) (fun c5_ => ?_)
  · exact absurd c5_ (by decide)
  · refine pb_ic C dX3_top_8 ?_
    exact pb_iret C dX3_top_9 (⟨_, rfl, rfl, hM, hF⟩)

set_option maxHeartbeats 1000000 in
theorem met_X3_widest {w : pb_W} (l : Launch) {H : Heap} (set : Nat) (hs : set < 2147483648) : pb_M w l yX3_widest cX3_widest 3 (some .int) 0 (0) (0) [.int (iZ (((set : Nat) : Int)))] H (pb_qx (.int (iZ ((widF set : Nat) : Int))) H) := by
  refine pb_of (by decide +kernel) (Nat.le_of_ble_eq_true rfl) ?_
  intro p_ e_ s_ m_ ar_ bl_ me_ co_ ls C hh hG hl
  have hl : lv_has ls 3 [(0, .int (iZ (((set : Nat) : Int))))] := hl
  have L4 : ∀ (n_ : Nat) (n left : Nat), left = n_ → (left = wit set n) → (n ≤ 31) → (∀ m, m < n → wit set m ≠ 0) → ∀ (ls : Array Slot), lv_has ls 3 [(1, .int (iZ (((n : Nat) : Int)))), (2, .int (iZ (((left : Nat) : Int))))] → pb_V w.2.2.2 p_ l e_ (pb_rm 0 (0) (0)) s_ m_ ar_ bl_ me_ co_ H (0) (0) (pb_E w bl_ ar_ s_ (0) (0) (pb_qx (.int (iZ ((widF set : Nat) : Int))) H)) (F0 m_ 4 ls []) := by
    intro n_
    induction n_ using Nat.strongRecOn with
    | _ n_ ih4 =>
    intro n left hm_ h1 h2 h3 ls hl
    have hb := wit_lt hs n
    refine pb_iload_n C dX3_widest_4 rfl (lv_at hl 1 rfl) ?_
    refine pb_if_eq C dX3_widest_5 (x := ((left : Nat) : Int)) (tgt := 20) (by decide) (by omega) (fun c5_ => ?_) (fun c5_ => ?_)
    · refine pb_iload_n C dX3_widest_20 rfl (lv_at hl 0 rfl) ?_
      exact pb_iret C dX3_widest_21 (⟨by rw [widF_eq (n := n) (by omega) (by omega) h3], rfl⟩)
    · have hd := wit_dec (l := set) (n := n) (by omega)
      rw [wit, ← h1] at hd
      have hn1 : n + 1 ≤ 31 := wit_31 hs (by rw [← h1]; omega)
      refine pb_iinc C dX3_widest_8 hl (j := 0) (x := (((n : Nat) : Int))) rfl (by decide) rfl fun ls hl => ?_
      have hl : lv_has ls 3 [(1, .int (iZ ((((n + 1) : Nat) : Int)))), (2, .int (iZ (((left : Nat) : Int))))] := hl
      refine pb_iload_n C dX3_widest_11 rfl (lv_at hl 1 rfl) ?_
      refine pb_iload_n C dX3_widest_12 rfl (lv_at hl 1 rfl) ?_
      refine pb_ic C dX3_widest_13 ?_
      refine pb_ishl C dX3_widest_14 (x := left) (y := 1) (by omega) ?_
      refine pb_iand C dX3_widest_15 (x := left) (y := (left <<< 1)) ?_
      refine pb_istore_n C dX3_widest_16 rfl hl (by decide) rfl fun ls hl => ?_
      have hl : lv_has ls 3 [(2, .int (iZ ((((left &&& (left <<< 1)) : Nat) : Int)))), (1, .int (iZ ((((n + 1) : Nat) : Int))))] := hl
      refine pb_goto C dX3_widest_17 (tgt := 4) (by decide) ?_
      exact pb_V.mono (by omega) (by omega) (ih4 _ (by omega) (n + 1) (left &&& (left <<< 1)) rfl (by rw [wit, ← h1]) hn1 (lt_s h3 (by rw [← h1]; omega)) ls (lv_sub hl [1, 0] rfl))
  refine pb_ic C dX3_widest_0 ?_
  refine pb_istore_n C dX3_widest_1 rfl hl (by decide) rfl fun ls hl => ?_
  have hl : lv_has ls 3 [(1, .int (iZ (0))), (0, .int (iZ (((set : Nat) : Int))))] := hl
  refine pb_iload_n C dX3_widest_2 rfl (lv_at hl 1 rfl) ?_
  refine pb_istore_n C dX3_widest_3 rfl hl (by decide) rfl fun ls hl => ?_
  have hl : lv_has ls 3 [(2, .int (iZ (((set : Nat) : Int)))), (1, .int (iZ (0))), (0, .int (iZ (((set : Nat) : Int))))] := hl
  exact pb_V.mono (by omega) (by omega) (L4 _ 0 set rfl rfl (by omega) (fun m hm => absurd hm (by omega)) ls (lv_sub hl [1, 0] rfl))

set_option maxHeartbeats 1000000 in
theorem met_X3_largestRectangle {w : pb_W} (l : Launch) {H0 : Heap} (o : Nat) (S : mS) (hM : MW w H0 o S) (s : Nat) (hs : s < 8) (hb : mok S) : pb_M w l yX3_largestRectangle cX3_largestRectangle 7 (some .int) 5 (0) (0) [.ref (o), .int (iZ (((s : Nat) : Int)))] H0 (pb_qi (fun z H1 => z = ((larR (mg S s) : Nat) : Int) ∧ MW w H1 o (mI S 0 0) ∧ mF o H0 H1)) := by
  refine pb_of (by decide +kernel) (Nat.le_of_ble_eq_true rfl) ?_
  intro p_ e_ s_ m_ ar_ bl_ me_ co_ ls C hh hG hl
  have hl : lv_has ls 7 [(0, .ref (o)), (1, .int (iZ (((s : Nat) : Int))))] := hl
  have hM0 := hM; obtain ⟨hz, hO, hA1, hA2, hA3, hA4, hA5, hA6, hA7, hA8, hA9, hA10, hA11, hA12⟩ := hM0
  have hF : mF o H0 H0 := mF.rf
  have L14 : ∀ (n_ : Nat) (k t : Nat) (H : Heap), 24 - k = n_ → (pb_G w s_ H) → (MW w H o (mI S 0 0)) → (mF o H0 H) → (k ≤ 24) → (t = mxf (fun low => mxf (inR (mg S s) low) (24 - low)) k) → (t ≤ 1000) → ∀ (ls : Array Slot), lv_has ls 7 [(0, .ref (o)), (1, .int (iZ (((s : Nat) : Int)))), (2, .int (iZ (((t : Nat) : Int)))), (3, .int (iZ (((k : Nat) : Int))))] → pb_V w.2.2.2 p_ l e_ (pb_rm 5 (0) (0)) s_ m_ ar_ bl_ me_ co_ H (0) (0) (pb_E w bl_ ar_ s_ (0) (0) (pb_qi (fun z H1 => z = ((larR (mg S s) : Nat) : Int) ∧ MW w H1 o (mI S 0 0) ∧ mF o H0 H1))) (F0 m_ 14 ls []) := by
    intro n_
    induction n_ using Nat.strongRecOn with
    | _ n_ ih14 =>
    intro k t H hm_ hG hM hF hk ht htb ls hl
    have hM0 := hM; obtain ⟨hz, hO, hA1, hA2, hA3, hA4, hA5, hA6, hA7, hA8, hA9, hA10, hA11, hA12⟩ := hM0
    have hO : pb_O w H o 2 [.int (iZ ((0))), .int (iZ ((S.1 1))), .ref (o + 1), .ref (o + 2), .ref (o + 3), .ref (o + 4), .ref (o + 5), .ref (o + 6), .ref (o + 7), .ref (o + 8), .ref (o + 9), .ref (o + 10), .ref (o + 11), .ref (o + 12), .int (iZ ((S.1 2))), .int (iZ ((S.1 3)))] := hO
    have hA1 : pb_A w H (o + 1) 0 192 (pb_nf (S.2.1 0)) := hA1
    have hA2 : pb_A w H (o + 2) 0 24 (pb_nf (S.2.1 1)) := hA2
    have hA3 : pb_A w H (o + 3) 0 26 (pb_nf (S.2.1 2)) := hA3
    have hA4 : pb_A w H (o + 4) 0 26 (pb_nf (S.2.1 3)) := hA4
    have hA5 : pb_A w H (o + 5) 0 40 (pb_zf (S.2.2 0)) := hA5
    have hA6 : pb_A w H (o + 6) 0 40 (pb_zf (S.2.2 1)) := hA6
    have hA7 : pb_A w H (o + 7) 0 576 (pb_zf (S.2.2 2)) := hA7
    have hA8 : pb_A w H (o + 8) 0 1300 (pb_zf (S.2.2 3)) := hA8
    have hA9 : pb_A w H (o + 9) 0 1300 (pb_zf (S.2.2 4)) := hA9
    have hA10 : pb_A w H (o + 10) 0 400 (pb_zf (S.2.2 5)) := hA10
    have hA11 : pb_A w H (o + 11) 0 400 (pb_zf (S.2.2 6)) := hA11
    have hA12 : pb_A w H (o + 12) 0 625 (pb_nf (S.2.1 4)) := hA12
    have L27 : ∀ (n_ : Nat) (j t2 : Nat) (H : Heap), 24 - k - j = n_ → (pb_G w s_ H) → (MW w H o (mI S 0 0)) → (mF o H0 H) → (k < 24) → (j ≤ 24 - k) → (t2 = max t (mxf (inR (mg S s) k) j)) → (t2 ≤ 1000) → ∀ (ls : Array Slot), lv_has ls 7 [(0, .ref (o)), (1, .int (iZ (((s : Nat) : Int)))), (2, .int (iZ (((t2 : Nat) : Int)))), (3, .int (iZ (((k : Nat) : Int)))), (4, .int (iZ ((((bF (mg S s) k j) : Nat) : Int)))), (5, .int (iZ ((((k + j) : Nat) : Int))))] → pb_V w.2.2.2 p_ l e_ (pb_rm 5 (0) (0)) s_ m_ ar_ bl_ me_ co_ H (0) (0) (pb_E w bl_ ar_ s_ (0) (0) (pb_qi (fun z H1 => z = ((larR (mg S s) : Nat) : Int) ∧ MW w H1 o (mI S 0 0) ∧ mF o H0 H1))) (F0 m_ 27 ls []) := by
      intro n_
      induction n_ using Nat.strongRecOn with
      | _ n_ ih27 =>
      intro j t2 H hm_ hG hM hF hk3 hj ht2 htb2 ls hl
      have hM0 := hM; obtain ⟨hz, hO, hA1, hA2, hA3, hA4, hA5, hA6, hA7, hA8, hA9, hA10, hA11, hA12⟩ := hM0
      have hO : pb_O w H o 2 [.int (iZ ((0))), .int (iZ ((S.1 1))), .ref (o + 1), .ref (o + 2), .ref (o + 3), .ref (o + 4), .ref (o + 5), .ref (o + 6), .ref (o + 7), .ref (o + 8), .ref (o + 9), .ref (o + 10), .ref (o + 11), .ref (o + 12), .int (iZ ((S.1 2))), .int (iZ ((S.1 3)))] := hO
      have hA1 : pb_A w H (o + 1) 0 192 (pb_nf (S.2.1 0)) := hA1
      have hA2 : pb_A w H (o + 2) 0 24 (pb_nf (S.2.1 1)) := hA2
      have hA3 : pb_A w H (o + 3) 0 26 (pb_nf (S.2.1 2)) := hA3
      have hA4 : pb_A w H (o + 4) 0 26 (pb_nf (S.2.1 3)) := hA4
      have hA5 : pb_A w H (o + 5) 0 40 (pb_zf (S.2.2 0)) := hA5
      have hA6 : pb_A w H (o + 6) 0 40 (pb_zf (S.2.2 1)) := hA6
      have hA7 : pb_A w H (o + 7) 0 576 (pb_zf (S.2.2 2)) := hA7
      have hA8 : pb_A w H (o + 8) 0 1300 (pb_zf (S.2.2 3)) := hA8
      have hA9 : pb_A w H (o + 9) 0 1300 (pb_zf (S.2.2 4)) := hA9
      have hA10 : pb_A w H (o + 10) 0 400 (pb_zf (S.2.2 5)) := hA10
      have hA11 : pb_A w H (o + 11) 0 400 (pb_zf (S.2.2 6)) := hA11
      have hA12 : pb_A w H (o + 12) 0 625 (pb_nf (S.2.1 4)) := hA12
      have hbj := bF_lt (mg S s) k j
      have hbj1 := bF_lt (mg S s) k (j + 1)
      have hw_ := widF_le (bF (mg S s) k (j + 1))
      refine pb_iload C dX3_largestRectangle_27 (lv_at hl 5 rfl) ?_
      refine pb_bip C dX3_largestRectangle_29 (by decide) ?_
      refine pb_icmp_ge C dX3_largestRectangle_31 (x := (((k + j) : Nat) : Int)) (y := 24) (tgt := 80) (by decide) (by omega) (by omega) (fun c31_ => ?_) (fun c31_ => ?_)
      · have hend : t2 = max t (mxf (inR (mg S s) k) (24 - k)) := by rw [ht2]; congr 1; first | (rw [show j = 24 - k from by omega]; done) | exact (mxf_z hj (inR_z (by omega))).symm
        refine pb_iinc C dX3_largestRectangle_80 hl (j := 3) (x := (((k : Nat) : Int))) rfl (by decide) rfl fun ls hl => ?_
        have hl : lv_has ls 7 [(3, .int (iZ ((((k + 1) : Nat) : Int)))), (0, .ref (o)), (1, .int (iZ (((s : Nat) : Int)))), (2, .int (iZ (((t2 : Nat) : Int)))), (4, .int (iZ ((((bF (mg S s) k j) : Nat) : Int)))), (5, .int (iZ ((((k + j) : Nat) : Int))))] := hl
        refine pb_goto C dX3_largestRectangle_83 (tgt := 14) (by decide) ?_
        exact pb_V.mono (by omega) (by omega) (ih14 _ (by omega) (k + 1) t2 H rfl hG hM hF (by omega) (by rw [mxf, ← ht]; exact hend) (by omega) ls (lv_sub hl [1, 2, 3, 0] rfl))
      · refine pb_iload C dX3_largestRectangle_34 (lv_at hl 4 rfl) ?_
        refine pb_if_eq C dX3_largestRectangle_36 (x := (((bF (mg S s) k j) : Nat) : Int)) (tgt := 80) (by decide) (by omega) (fun c36_ => ?_) (fun c36_ => ?_)
        · have hend : t2 = max t (mxf (inR (mg S s) k) (24 - k)) := by rw [ht2]; congr 1; first | (rw [show j = 24 - k from by omega]; done) | exact (mxf_z hj (inR_z (by omega))).symm
          refine pb_iinc C dX3_largestRectangle_80 hl (j := 3) (x := (((k : Nat) : Int))) rfl (by decide) rfl fun ls hl => ?_
          have hl : lv_has ls 7 [(3, .int (iZ ((((k + 1) : Nat) : Int)))), (0, .ref (o)), (1, .int (iZ (((s : Nat) : Int)))), (2, .int (iZ (((t2 : Nat) : Int)))), (4, .int (iZ ((((bF (mg S s) k j) : Nat) : Int)))), (5, .int (iZ ((((k + j) : Nat) : Int))))] := hl
          refine pb_goto C dX3_largestRectangle_83 (tgt := 14) (by decide) ?_
          exact pb_V.mono (by omega) (by omega) (ih14 _ (by omega) (k + 1) t2 H rfl hG hM hF (by omega) (by rw [mxf, ← ht]; exact hend) (by omega) ls (lv_sub hl [1, 2, 3, 0] rfl))
        · refine pb_iload C dX3_largestRectangle_39 (lv_at hl 4 rfl) ?_
          refine pb_aload_n C dX3_largestRectangle_41 rfl (lv_at hl 0 rfl) ?_
          refine pb_iload_n C dX3_largestRectangle_42 rfl (lv_at hl 1 rfl) ?_
          refine pb_iload C dX3_largestRectangle_43 (lv_at hl 5 rfl) ?_
          refine pb_go_x (bc' := 0) (bs' := 0) (pb_runV (rest := [.int (iZ ((((bF (mg S s) k j) : Nat) : Int)))]) C hG (met_X3_row l o (mI S 0 0) hM s (by omega) (((k + j : Nat) : Int)) (by omega)) hO.r (ci := 2) rfl (lw_V q1807 q1809 qs28 q60 q1810) ⟨rfl, hdX3_row⟩ rfl hl.1 rfl (Nat.le_of_ble_eq_true rfl) ⟨(Nat.le_of_ble_eq_true rfl), (Nat.le_of_ble_eq_true rfl)⟩ dX3_largestRectangle_45) (by omega) (by omega) ?_
          refine pb_eq (g2 := F0 m_ 48 ls [.int (iZ (((((mg S s) (k + j)) : Nat) : Int))), .int (iZ ((((bF (mg S s) k j) : Nat) : Int)))]) (congrArg (fun z9 => F0 m_ 48 ls [.int (iZ z9), .int (iZ ((((bF (mg S s) k j) : Nat) : Int)))]) (show (((gr (mg (mI S 0 0) s) (((k + j : Nat) : Int))) : Nat) : Int) = ((((mg S s) (k + j)) : Nat) : Int) from congrArg (fun n : Nat => (n : Int)) (gr_nat (mg S s) (k + j)))) ?_
          refine pb_iand C dX3_largestRectangle_48 (x := (bF (mg S s) k j)) (y := ((mg S s) (k + j))) ?_
          refine pb_eq (g2 := F0 m_ 49 ls [.int (iZ ((((bF (mg S s) k (j + 1)) : Nat) : Int)))]) (congrArg (fun z9 => F0 m_ 49 ls [.int (iZ z9)]) (show ((((bF (mg S s) k j) &&& ((mg S s) (k + j))) : Nat) : Int) = (((bF (mg S s) k (j + 1)) : Nat) : Int) from rfl)) ?_
          refine pb_istore C dX3_largestRectangle_49 hl (by decide) rfl fun ls hl => ?_
          have hl : lv_has ls 7 [(4, .int (iZ ((((bF (mg S s) k (j + 1)) : Nat) : Int)))), (0, .ref (o)), (1, .int (iZ (((s : Nat) : Int)))), (2, .int (iZ (((t2 : Nat) : Int)))), (3, .int (iZ (((k : Nat) : Int)))), (5, .int (iZ ((((k + j) : Nat) : Int))))] := hl
          refine pb_iload C dX3_largestRectangle_51 (lv_at hl 0 rfl) ?_
          refine pb_go_x (bc' := 0) (bs' := 0) (pb_runS (rest := []) C hG (met_X3_widest l ((bF (mg S s) k (j + 1))) (Nat.lt_of_lt_of_le (bF_lt (mg S s) k (j + 1)) (by decide))) (lw_S q2021 q2022 q60 q2023) hdX3_widest rfl hl.1 rfl (Nat.le_of_ble_eq_true rfl) ⟨(Nat.le_of_ble_eq_true rfl), (Nat.le_of_ble_eq_true rfl)⟩ dX3_largestRectangle_53) (by omega) (by omega) ?_
          refine pb_iload C dX3_largestRectangle_56 (lv_at hl 5 rfl) ?_
          refine pb_iload_n C dX3_largestRectangle_58 rfl (lv_at hl 4 rfl) ?_
          refine pb_isub C dX3_largestRectangle_59 ?_
          refine pb_ic C dX3_largestRectangle_60 ?_
          refine pb_iadd C dX3_largestRectangle_61 ?_
          refine pb_eq (g2 := F0 m_ 62 ls [.int (iZ ((((j + 1) : Nat) : Int))), .int (iZ ((((widF ((bF (mg S s) k (j + 1)))) : Nat) : Int)))]) (congrArg (fun z9 => F0 m_ 62 ls [.int (iZ z9), .int (iZ ((((widF ((bF (mg S s) k (j + 1)))) : Nat) : Int)))]) (show (((((k + j) : Nat) : Int) - ((k : Nat) : Int)) + 1) = (((j + 1) : Nat) : Int) from (by omega))) ?_
          refine pb_imul C dX3_largestRectangle_62 ?_
          have hm1 : widF (bF (mg S s) k (j + 1)) * (j + 1) ≤ 32 * 24 := Nat.mul_le_mul hw_ (by omega)
          refine pb_istore C dX3_largestRectangle_63 hl (by decide) rfl fun ls hl => ?_
          have hl : lv_has ls 7 [(6, .int (iZ (((((widF ((bF (mg S s) k (j + 1)))) * (j + 1)) : Nat) : Int)))), (4, .int (iZ ((((bF (mg S s) k (j + 1)) : Nat) : Int)))), (0, .ref (o)), (1, .int (iZ (((s : Nat) : Int)))), (2, .int (iZ (((t2 : Nat) : Int)))), (3, .int (iZ (((k : Nat) : Int)))), (5, .int (iZ ((((k + j) : Nat) : Int))))] := hl
          refine pb_iload C dX3_largestRectangle_65 (lv_at hl 0 rfl) ?_
          refine pb_iload_n C dX3_largestRectangle_67 rfl (lv_at hl 4 rfl) ?_
          refine pb_icmp_le C dX3_largestRectangle_68 (x := ((((widF ((bF (mg S s) k (j + 1)))) * (j + 1)) : Nat) : Int)) (y := ((t2 : Nat) : Int)) (tgt := 74) (by decide) (by omega) (by omega) (fun c68_ => ?_) (fun c68_ => ?_)
          · refine pb_iinc C dX3_largestRectangle_74 hl (j := 6) (x := ((((k + j) : Nat) : Int))) rfl (by decide) rfl fun ls hl => ?_
            have hl : lv_has ls 7 [(5, .int (iZ (((((k + j) + 1) : Nat) : Int)))), (6, .int (iZ (((((widF ((bF (mg S s) k (j + 1)))) * (j + 1)) : Nat) : Int)))), (4, .int (iZ ((((bF (mg S s) k (j + 1)) : Nat) : Int)))), (0, .ref (o)), (1, .int (iZ (((s : Nat) : Int)))), (2, .int (iZ (((t2 : Nat) : Int)))), (3, .int (iZ (((k : Nat) : Int))))] := hl
            refine pb_goto C dX3_largestRectangle_77 (tgt := 27) (by decide) ?_
            exact pb_V.mono (by omega) (by omega) (ih27 _ (by omega) (j + 1) t2 H rfl hG hM hF (by omega) (by omega) (by rw [mxf, show inR (mg S s) k j = widF (bF (mg S s) k (j + 1)) * (j + 1) from rfl]; omega) (by omega) ls (lv_sub hl [3, 4, 5, 6, 2, 0] rfl))
          · refine pb_iload C dX3_largestRectangle_71 (lv_at hl 0 rfl) ?_
            refine pb_istore_n C dX3_largestRectangle_73 rfl hl (by decide) rfl fun ls hl => ?_
            have hl : lv_has ls 7 [(2, .int (iZ (((((widF ((bF (mg S s) k (j + 1)))) * (j + 1)) : Nat) : Int)))), (6, .int (iZ (((((widF ((bF (mg S s) k (j + 1)))) * (j + 1)) : Nat) : Int)))), (4, .int (iZ ((((bF (mg S s) k (j + 1)) : Nat) : Int)))), (0, .ref (o)), (1, .int (iZ (((s : Nat) : Int)))), (3, .int (iZ (((k : Nat) : Int)))), (5, .int (iZ ((((k + j) : Nat) : Int))))] := hl
            refine pb_iinc C dX3_largestRectangle_74 hl (j := 6) (x := ((((k + j) : Nat) : Int))) rfl (by decide) rfl fun ls hl => ?_
            have hl : lv_has ls 7 [(5, .int (iZ (((((k + j) + 1) : Nat) : Int)))), (2, .int (iZ (((((widF ((bF (mg S s) k (j + 1)))) * (j + 1)) : Nat) : Int)))), (6, .int (iZ (((((widF ((bF (mg S s) k (j + 1)))) * (j + 1)) : Nat) : Int)))), (4, .int (iZ ((((bF (mg S s) k (j + 1)) : Nat) : Int)))), (0, .ref (o)), (1, .int (iZ (((s : Nat) : Int)))), (3, .int (iZ (((k : Nat) : Int))))] := hl
            refine pb_goto C dX3_largestRectangle_77 (tgt := 27) (by decide) ?_
            exact pb_V.mono (by omega) (by omega) (ih27 _ (by omega) (j + 1) ((widF ((bF (mg S s) k (j + 1)))) * (j + 1)) H rfl hG hM hF (by omega) (by omega) (by rw [mxf, show inR (mg S s) k j = widF (bF (mg S s) k (j + 1)) * (j + 1) from rfl]; omega) (by omega) ls (lv_sub hl [4, 5, 1, 6, 3, 0] rfl))
    refine pb_iload_n C dX3_largestRectangle_14 rfl (lv_at hl 3 rfl) ?_
    refine pb_bip C dX3_largestRectangle_15 (by decide) ?_
    refine pb_icmp_ge C dX3_largestRectangle_17 (x := ((k : Nat) : Int)) (y := 24) (tgt := 86) (by decide) (by omega) (by omega) (fun c17_ => ?_) (fun c17_ => ?_)
    · refine pb_iload_n C dX3_largestRectangle_86 rfl (lv_at hl 2 rfl) ?_
      exact pb_iret C dX3_largestRectangle_87 (⟨_, rfl, by rw [ht, show k = 24 from by omega]; rfl, hM, hF⟩)
    · refine pb_ldc C dX3_largestRectangle_20 q1916 (16777215) (by decide +kernel) ?_
      refine pb_istore C dX3_largestRectangle_22 hl (by decide) rfl fun ls hl => ?_
      have hl : lv_has ls 7 [(4, .int (iZ (16777215))), (0, .ref (o)), (1, .int (iZ (((s : Nat) : Int)))), (2, .int (iZ (((t : Nat) : Int)))), (3, .int (iZ (((k : Nat) : Int))))] := hl
      refine pb_iload_n C dX3_largestRectangle_24 rfl (lv_at hl 4 rfl) ?_
      refine pb_istore C dX3_largestRectangle_25 hl (by decide) rfl fun ls hl => ?_
      have hl : lv_has ls 7 [(5, .int (iZ (((k : Nat) : Int)))), (4, .int (iZ (16777215))), (0, .ref (o)), (1, .int (iZ (((s : Nat) : Int)))), (2, .int (iZ (((t : Nat) : Int)))), (3, .int (iZ (((k : Nat) : Int))))] := hl
      exact pb_V.mono (by omega) (by omega) (L27 _ 0 t H rfl hG hM hF (by omega) (by omega) (by rw [mxf]; omega) (by omega) ls (lv_sub hl [2, 3, 4, 5, 1, 0] rfl))
  refine pb_aload_n C dX3_largestRectangle_0 rfl (lv_at hl 0 rfl) ?_
  refine pb_iload_n C dX3_largestRectangle_1 rfl (lv_at hl 1 rfl) ?_
  refine pb_go_i (bc' := 0) (bs' := 0) (pb_runV (rest := []) C hG (met_X3_looks l o S hM s hs) hO.r (ci := 2) rfl (lw_V q1937 q1939 qs40 q60 q1940) ⟨rfl, hdX3_looks⟩ rfl hl.1 rfl (Nat.le_of_ble_eq_true rfl) ⟨(Nat.le_of_ble_eq_true rfl), (Nat.le_of_ble_eq_true rfl)⟩ dX3_largestRectangle_2) (by omega) (by omega) (fun z_ H_ hp_ => ?_)
  obtain ⟨rfl, hM, hF⟩ := hp_
  have hG := hG.kept (hF.z hz)
  have hO := hM.2.1
  refine pb_if_ne C dX3_largestRectangle_5 (x := 1) (tgt := 10) (by decide) (by omega) (fun c5_ => ?_) (fun c5_ => ?_)
  · refine pb_ic C dX3_largestRectangle_10 ?_
    refine pb_istore_n C dX3_largestRectangle_11 rfl hl (by decide) rfl fun ls hl => ?_
    have hl : lv_has ls 7 [(2, .int (iZ (0))), (0, .ref (o)), (1, .int (iZ (((s : Nat) : Int))))] := hl
    refine pb_ic C dX3_largestRectangle_12 ?_
    refine pb_istore_n C dX3_largestRectangle_13 rfl hl (by decide) rfl fun ls hl => ?_
    have hl : lv_has ls 7 [(3, .int (iZ (0))), (2, .int (iZ (0))), (0, .ref (o)), (1, .int (iZ (((s : Nat) : Int))))] := hl
    exact pb_V.mono (by omega) (by omega) (L14 _ 0 0 H_ rfl hG hM hF (by omega) rfl (by omega) ls (lv_sub hl [2, 3, 1, 0] rfl))
  · exact absurd c5_ (by decide)

set_option maxHeartbeats 1000000 in
theorem met_X3_largestRectangle_1 {w : pb_W} (l : Launch) {H0 : Heap} (o : Nat) (S : mS) (hM : MW w H0 o S) (s : Int) (hsr : -2147483648 ≤ s ∧ s ≤ 2147483647) (hs : ¬ (0 ≤ s ∧ s ≤ 7)) : pb_M w l yX3_largestRectangle cX3_largestRectangle 7 (some .int) 5 (0) (0) [.ref (o), .int (iZ (s))] H0 (pb_qi (fun z H1 => z = 0 ∧ MW w H1 o (mI S 0 1) ∧ mF o H0 H1)) := by
  refine pb_of (by decide +kernel) (Nat.le_of_ble_eq_true rfl) ?_
  intro p_ e_ s_ m_ ar_ bl_ me_ co_ ls C hh hG hl
  have hl : lv_has ls 7 [(0, .ref (o)), (1, .int (iZ (s)))] := hl
  have hM0 := hM; obtain ⟨hz, hO, hA1, hA2, hA3, hA4, hA5, hA6, hA7, hA8, hA9, hA10, hA11, hA12⟩ := hM0
  have hF : mF o H0 H0 := mF.rf
  refine pb_aload_n C dX3_largestRectangle_0 rfl (lv_at hl 0 rfl) ?_
  refine pb_iload_n C dX3_largestRectangle_1 rfl (lv_at hl 1 rfl) ?_
  refine pb_go_i (bc' := 0) (bs' := 0) (pb_runV (rest := []) C hG (met_X3_looks_1 l o S hM s hsr hs) hO.r (ci := 2) rfl (lw_V q1937 q1939 qs40 q60 q1940) ⟨rfl, hdX3_looks⟩ rfl hl.1 rfl (Nat.le_of_ble_eq_true rfl) ⟨(Nat.le_of_ble_eq_true rfl), (Nat.le_of_ble_eq_true rfl)⟩ dX3_largestRectangle_2) (by omega) (by omega) (fun z_ H_ hp_ => ?_)
  obtain ⟨rfl, hM, hF⟩ := hp_
  refine pb_if_ne C dX3_largestRectangle_5 (x := 0) (tgt := 10) (by decide) (by omega) (fun c5_ => ?_) (fun c5_ => ?_)
  · exact absurd c5_ (by decide)
  · refine pb_ic C dX3_largestRectangle_8 ?_
    exact pb_iret C dX3_largestRectangle_9 (⟨_, rfl, rfl, hM, hF⟩)

set_option maxHeartbeats 1000000 in
theorem met_X3_largestRectangleByCells {w : pb_W} (l : Launch) {H0 : Heap} (o : Nat) (S : mS) (hM : MW w H0 o S) (s : Nat) (hs : s < 8) (hb : mok S) : pb_M w l yX3_largestRectangleByCells cX3_largestRectangleByCells 2 (some .int) 6 (0) (0) [.ref (o), .int (iZ (((s : Nat) : Int)))] H0 (pb_qi (fun z H1 => z = ((larR (mg S s) : Nat) : Int) ∧ MW w H1 o (mI S 0 0) ∧ mF o H0 H1)) := by
  refine pb_of (by decide +kernel) (Nat.le_of_ble_eq_true rfl) ?_
  intro p_ e_ s_ m_ ar_ bl_ me_ co_ ls C hh hG hl
  have hl : lv_has ls 2 [(0, .ref (o)), (1, .int (iZ (((s : Nat) : Int))))] := hl
  have hM0 := hM; obtain ⟨hz, hO, hA1, hA2, hA3, hA4, hA5, hA6, hA7, hA8, hA9, hA10, hA11, hA12⟩ := hM0
  have hF : mF o H0 H0 := mF.rf
  refine pb_aload_n C dX3_largestRectangleByCells_0 rfl (lv_at hl 0 rfl) ?_
  refine pb_iload_n C dX3_largestRectangleByCells_1 rfl (lv_at hl 1 rfl) ?_
  refine pb_go_i (bc' := 0) (bs' := 0) (pb_runV (rest := []) C hG (met_X3_largestRectangle l o S hM s hs hb) hO.r (ci := 2) rfl (lw_V q2028 q2018 q2019 q60 q2020) ⟨rfl, hdX3_largestRectangle⟩ rfl hl.1 rfl (Nat.le_of_ble_eq_true rfl) ⟨(Nat.le_of_ble_eq_true rfl), (Nat.le_of_ble_eq_true rfl)⟩ dX3_largestRectangleByCells_2) (by omega) (by omega) (fun z_ H_ hp_ => ?_)
  obtain ⟨hz_, hM, hF⟩ := hp_
  exact pb_iret C dX3_largestRectangleByCells_5 (⟨_, rfl, hz_, hM, hF⟩)

set_option maxHeartbeats 1000000 in
theorem met_X3_largestRectangleByCells_1 {w : pb_W} (l : Launch) {H0 : Heap} (o : Nat) (S : mS) (hM : MW w H0 o S) (s : Int) (hsr : -2147483648 ≤ s ∧ s ≤ 2147483647) (hs : ¬ (0 ≤ s ∧ s ≤ 7)) : pb_M w l yX3_largestRectangleByCells cX3_largestRectangleByCells 2 (some .int) 6 (0) (0) [.ref (o), .int (iZ (s))] H0 (pb_qi (fun z H1 => z = 0 ∧ MW w H1 o (mI S 0 1) ∧ mF o H0 H1)) := by
  refine pb_of (by decide +kernel) (Nat.le_of_ble_eq_true rfl) ?_
  intro p_ e_ s_ m_ ar_ bl_ me_ co_ ls C hh hG hl
  have hl : lv_has ls 2 [(0, .ref (o)), (1, .int (iZ (s)))] := hl
  have hM0 := hM; obtain ⟨hz, hO, hA1, hA2, hA3, hA4, hA5, hA6, hA7, hA8, hA9, hA10, hA11, hA12⟩ := hM0
  have hF : mF o H0 H0 := mF.rf
  refine pb_aload_n C dX3_largestRectangleByCells_0 rfl (lv_at hl 0 rfl) ?_
  refine pb_iload_n C dX3_largestRectangleByCells_1 rfl (lv_at hl 1 rfl) ?_
  refine pb_go_i (bc' := 0) (bs' := 0) (pb_runV (rest := []) C hG (met_X3_largestRectangle_1 l o S hM s hsr hs) hO.r (ci := 2) rfl (lw_V q2028 q2018 q2019 q60 q2020) ⟨rfl, hdX3_largestRectangle⟩ rfl hl.1 rfl (Nat.le_of_ble_eq_true rfl) ⟨(Nat.le_of_ble_eq_true rfl), (Nat.le_of_ble_eq_true rfl)⟩ dX3_largestRectangleByCells_2) (by omega) (by omega) (fun z_ H_ hp_ => ?_)
  obtain ⟨rfl, hM, hF⟩ := hp_
  exact pb_iret C dX3_largestRectangleByCells_5 (⟨_, rfl, rfl, hM, hF⟩)

set_option maxHeartbeats 1000000 in
theorem met_X3_largestSquare {w : pb_W} (l : Launch) {H0 : Heap} (o : Nat) (S : mS) (hM : MW w H0 o S) (s : Nat) (hs : s < 8) (hb : mok S) : pb_M w l yX3_largestSquare cX3_largestSquare 8 (some .int) 5 (0) (0) [.ref (o), .int (iZ (((s : Nat) : Int)))] H0 (pb_qi (fun z H1 => z = ((larS (mg S s) : Nat) : Int) ∧ MW w H1 o (mI S 0 0) ∧ mF o H0 H1)) := by
  refine pb_of (by decide +kernel) (Nat.le_of_ble_eq_true rfl) ?_
  intro p_ e_ s_ m_ ar_ bl_ me_ co_ ls C hh hG hl
  have hl : lv_has ls 8 [(0, .ref (o)), (1, .int (iZ (((s : Nat) : Int))))] := hl
  have hM0 := hM; obtain ⟨hz, hO, hA1, hA2, hA3, hA4, hA5, hA6, hA7, hA8, hA9, hA10, hA11, hA12⟩ := hM0
  have hF : mF o H0 H0 := mF.rf
  have L14 : ∀ (n_ : Nat) (k t : Nat) (H : Heap), 24 - k = n_ → (pb_G w s_ H) → (MW w H o (mI S 0 0)) → (mF o H0 H) → (k ≤ 24) → (t = mxf (fun low => mxf (inS (mg S s) low) (24 - low)) k) → (t ≤ 1000) → ∀ (ls : Array Slot), lv_has ls 8 [(0, .ref (o)), (1, .int (iZ (((s : Nat) : Int)))), (2, .int (iZ (((t : Nat) : Int)))), (3, .int (iZ (((k : Nat) : Int))))] → pb_V w.2.2.2 p_ l e_ (pb_rm 5 (0) (0)) s_ m_ ar_ bl_ me_ co_ H (0) (0) (pb_E w bl_ ar_ s_ (0) (0) (pb_qi (fun z H1 => z = ((larS (mg S s) : Nat) : Int) ∧ MW w H1 o (mI S 0 0) ∧ mF o H0 H1))) (F0 m_ 14 ls []) := by
    intro n_
    induction n_ using Nat.strongRecOn with
    | _ n_ ih14 =>
    intro k t H hm_ hG hM hF hk ht htb ls hl
    have hM0 := hM; obtain ⟨hz, hO, hA1, hA2, hA3, hA4, hA5, hA6, hA7, hA8, hA9, hA10, hA11, hA12⟩ := hM0
    have hO : pb_O w H o 2 [.int (iZ ((0))), .int (iZ ((S.1 1))), .ref (o + 1), .ref (o + 2), .ref (o + 3), .ref (o + 4), .ref (o + 5), .ref (o + 6), .ref (o + 7), .ref (o + 8), .ref (o + 9), .ref (o + 10), .ref (o + 11), .ref (o + 12), .int (iZ ((S.1 2))), .int (iZ ((S.1 3)))] := hO
    have hA1 : pb_A w H (o + 1) 0 192 (pb_nf (S.2.1 0)) := hA1
    have hA2 : pb_A w H (o + 2) 0 24 (pb_nf (S.2.1 1)) := hA2
    have hA3 : pb_A w H (o + 3) 0 26 (pb_nf (S.2.1 2)) := hA3
    have hA4 : pb_A w H (o + 4) 0 26 (pb_nf (S.2.1 3)) := hA4
    have hA5 : pb_A w H (o + 5) 0 40 (pb_zf (S.2.2 0)) := hA5
    have hA6 : pb_A w H (o + 6) 0 40 (pb_zf (S.2.2 1)) := hA6
    have hA7 : pb_A w H (o + 7) 0 576 (pb_zf (S.2.2 2)) := hA7
    have hA8 : pb_A w H (o + 8) 0 1300 (pb_zf (S.2.2 3)) := hA8
    have hA9 : pb_A w H (o + 9) 0 1300 (pb_zf (S.2.2 4)) := hA9
    have hA10 : pb_A w H (o + 10) 0 400 (pb_zf (S.2.2 5)) := hA10
    have hA11 : pb_A w H (o + 11) 0 400 (pb_zf (S.2.2 6)) := hA11
    have hA12 : pb_A w H (o + 12) 0 625 (pb_nf (S.2.1 4)) := hA12
    have L27 : ∀ (n_ : Nat) (j t2 : Nat) (H : Heap), 24 - k - j = n_ → (pb_G w s_ H) → (MW w H o (mI S 0 0)) → (mF o H0 H) → (k < 24) → (j ≤ 24 - k) → (t2 = max t (mxf (inS (mg S s) k) j)) → (t2 ≤ 1000) → ∀ (ls : Array Slot), lv_has ls 8 [(0, .ref (o)), (1, .int (iZ (((s : Nat) : Int)))), (2, .int (iZ (((t2 : Nat) : Int)))), (3, .int (iZ (((k : Nat) : Int)))), (4, .int (iZ ((((bF (mg S s) k j) : Nat) : Int)))), (5, .int (iZ ((((k + j) : Nat) : Int))))] → pb_V w.2.2.2 p_ l e_ (pb_rm 5 (0) (0)) s_ m_ ar_ bl_ me_ co_ H (0) (0) (pb_E w bl_ ar_ s_ (0) (0) (pb_qi (fun z H1 => z = ((larS (mg S s) : Nat) : Int) ∧ MW w H1 o (mI S 0 0) ∧ mF o H0 H1))) (F0 m_ 27 ls []) := by
      intro n_
      induction n_ using Nat.strongRecOn with
      | _ n_ ih27 =>
      intro j t2 H hm_ hG hM hF hk3 hj ht2 htb2 ls hl
      have hM0 := hM; obtain ⟨hz, hO, hA1, hA2, hA3, hA4, hA5, hA6, hA7, hA8, hA9, hA10, hA11, hA12⟩ := hM0
      have hO : pb_O w H o 2 [.int (iZ ((0))), .int (iZ ((S.1 1))), .ref (o + 1), .ref (o + 2), .ref (o + 3), .ref (o + 4), .ref (o + 5), .ref (o + 6), .ref (o + 7), .ref (o + 8), .ref (o + 9), .ref (o + 10), .ref (o + 11), .ref (o + 12), .int (iZ ((S.1 2))), .int (iZ ((S.1 3)))] := hO
      have hA1 : pb_A w H (o + 1) 0 192 (pb_nf (S.2.1 0)) := hA1
      have hA2 : pb_A w H (o + 2) 0 24 (pb_nf (S.2.1 1)) := hA2
      have hA3 : pb_A w H (o + 3) 0 26 (pb_nf (S.2.1 2)) := hA3
      have hA4 : pb_A w H (o + 4) 0 26 (pb_nf (S.2.1 3)) := hA4
      have hA5 : pb_A w H (o + 5) 0 40 (pb_zf (S.2.2 0)) := hA5
      have hA6 : pb_A w H (o + 6) 0 40 (pb_zf (S.2.2 1)) := hA6
      have hA7 : pb_A w H (o + 7) 0 576 (pb_zf (S.2.2 2)) := hA7
      have hA8 : pb_A w H (o + 8) 0 1300 (pb_zf (S.2.2 3)) := hA8
      have hA9 : pb_A w H (o + 9) 0 1300 (pb_zf (S.2.2 4)) := hA9
      have hA10 : pb_A w H (o + 10) 0 400 (pb_zf (S.2.2 5)) := hA10
      have hA11 : pb_A w H (o + 11) 0 400 (pb_zf (S.2.2 6)) := hA11
      have hA12 : pb_A w H (o + 12) 0 625 (pb_nf (S.2.1 4)) := hA12
      have hbj := bF_lt (mg S s) k j
      have hbj1 := bF_lt (mg S s) k (j + 1)
      have hw_ := widF_le (bF (mg S s) k (j + 1))
      refine pb_iload C dX3_largestSquare_27 (lv_at hl 5 rfl) ?_
      refine pb_bip C dX3_largestSquare_29 (by decide) ?_
      refine pb_icmp_ge C dX3_largestSquare_31 (x := (((k + j) : Nat) : Int)) (y := 24) (tgt := 96) (by decide) (by omega) (by omega) (fun c31_ => ?_) (fun c31_ => ?_)
      · have hend : t2 = max t (mxf (inS (mg S s) k) (24 - k)) := by rw [ht2]; congr 1; first | (rw [show j = 24 - k from by omega]; done) | exact (mxf_z hj (inS_z (by omega))).symm
        refine pb_iinc C dX3_largestSquare_96 hl (j := 3) (x := (((k : Nat) : Int))) rfl (by decide) rfl fun ls hl => ?_
        have hl : lv_has ls 8 [(3, .int (iZ ((((k + 1) : Nat) : Int)))), (0, .ref (o)), (1, .int (iZ (((s : Nat) : Int)))), (2, .int (iZ (((t2 : Nat) : Int)))), (4, .int (iZ ((((bF (mg S s) k j) : Nat) : Int)))), (5, .int (iZ ((((k + j) : Nat) : Int))))] := hl
        refine pb_goto C dX3_largestSquare_99 (tgt := 14) (by decide) ?_
        exact pb_V.mono (by omega) (by omega) (ih14 _ (by omega) (k + 1) t2 H rfl hG hM hF (by omega) (by rw [mxf, ← ht]; exact hend) (by omega) ls (lv_sub hl [1, 2, 3, 0] rfl))
      · refine pb_iload C dX3_largestSquare_34 (lv_at hl 4 rfl) ?_
        refine pb_if_eq C dX3_largestSquare_36 (x := (((bF (mg S s) k j) : Nat) : Int)) (tgt := 96) (by decide) (by omega) (fun c36_ => ?_) (fun c36_ => ?_)
        · have hend : t2 = max t (mxf (inS (mg S s) k) (24 - k)) := by rw [ht2]; congr 1; first | (rw [show j = 24 - k from by omega]; done) | exact (mxf_z hj (inS_z (by omega))).symm
          refine pb_iinc C dX3_largestSquare_96 hl (j := 3) (x := (((k : Nat) : Int))) rfl (by decide) rfl fun ls hl => ?_
          have hl : lv_has ls 8 [(3, .int (iZ ((((k + 1) : Nat) : Int)))), (0, .ref (o)), (1, .int (iZ (((s : Nat) : Int)))), (2, .int (iZ (((t2 : Nat) : Int)))), (4, .int (iZ ((((bF (mg S s) k j) : Nat) : Int)))), (5, .int (iZ ((((k + j) : Nat) : Int))))] := hl
          refine pb_goto C dX3_largestSquare_99 (tgt := 14) (by decide) ?_
          exact pb_V.mono (by omega) (by omega) (ih14 _ (by omega) (k + 1) t2 H rfl hG hM hF (by omega) (by rw [mxf, ← ht]; exact hend) (by omega) ls (lv_sub hl [1, 2, 3, 0] rfl))
        · refine pb_iload C dX3_largestSquare_39 (lv_at hl 4 rfl) ?_
          refine pb_aload_n C dX3_largestSquare_41 rfl (lv_at hl 0 rfl) ?_
          refine pb_iload_n C dX3_largestSquare_42 rfl (lv_at hl 1 rfl) ?_
          refine pb_iload C dX3_largestSquare_43 (lv_at hl 5 rfl) ?_
          refine pb_go_x (bc' := 0) (bs' := 0) (pb_runV (rest := [.int (iZ ((((bF (mg S s) k j) : Nat) : Int)))]) C hG (met_X3_row l o (mI S 0 0) hM s (by omega) (((k + j : Nat) : Int)) (by omega)) hO.r (ci := 2) rfl (lw_V q1807 q1809 qs28 q60 q1810) ⟨rfl, hdX3_row⟩ rfl hl.1 rfl (Nat.le_of_ble_eq_true rfl) ⟨(Nat.le_of_ble_eq_true rfl), (Nat.le_of_ble_eq_true rfl)⟩ dX3_largestSquare_45) (by omega) (by omega) ?_
          refine pb_eq (g2 := F0 m_ 48 ls [.int (iZ (((((mg S s) (k + j)) : Nat) : Int))), .int (iZ ((((bF (mg S s) k j) : Nat) : Int)))]) (congrArg (fun z9 => F0 m_ 48 ls [.int (iZ z9), .int (iZ ((((bF (mg S s) k j) : Nat) : Int)))]) (show (((gr (mg (mI S 0 0) s) (((k + j : Nat) : Int))) : Nat) : Int) = ((((mg S s) (k + j)) : Nat) : Int) from congrArg (fun n : Nat => (n : Int)) (gr_nat (mg S s) (k + j)))) ?_
          refine pb_iand C dX3_largestSquare_48 (x := (bF (mg S s) k j)) (y := ((mg S s) (k + j))) ?_
          refine pb_eq (g2 := F0 m_ 49 ls [.int (iZ ((((bF (mg S s) k (j + 1)) : Nat) : Int)))]) (congrArg (fun z9 => F0 m_ 49 ls [.int (iZ z9)]) (show ((((bF (mg S s) k j) &&& ((mg S s) (k + j))) : Nat) : Int) = (((bF (mg S s) k (j + 1)) : Nat) : Int) from rfl)) ?_
          refine pb_istore C dX3_largestSquare_49 hl (by decide) rfl fun ls hl => ?_
          have hl : lv_has ls 8 [(4, .int (iZ ((((bF (mg S s) k (j + 1)) : Nat) : Int)))), (0, .ref (o)), (1, .int (iZ (((s : Nat) : Int)))), (2, .int (iZ (((t2 : Nat) : Int)))), (3, .int (iZ (((k : Nat) : Int)))), (5, .int (iZ ((((k + j) : Nat) : Int))))] := hl
          refine pb_iload C dX3_largestSquare_51 (lv_at hl 5 rfl) ?_
          refine pb_iload_n C dX3_largestSquare_53 rfl (lv_at hl 4 rfl) ?_
          refine pb_isub C dX3_largestSquare_54 ?_
          refine pb_ic C dX3_largestSquare_55 ?_
          refine pb_iadd C dX3_largestSquare_56 ?_
          refine pb_eq (g2 := F0 m_ 57 ls [.int (iZ ((((j + 1) : Nat) : Int)))]) (congrArg (fun z9 => F0 m_ 57 ls [.int (iZ z9)]) (show (((((k + j) : Nat) : Int) - ((k : Nat) : Int)) + 1) = (((j + 1) : Nat) : Int) from (by omega))) ?_
          refine pb_istore C dX3_largestSquare_57 hl (by decide) rfl fun ls hl => ?_
          have hl : lv_has ls 8 [(6, .int (iZ ((((j + 1) : Nat) : Int)))), (4, .int (iZ ((((bF (mg S s) k (j + 1)) : Nat) : Int)))), (0, .ref (o)), (1, .int (iZ (((s : Nat) : Int)))), (2, .int (iZ (((t2 : Nat) : Int)))), (3, .int (iZ (((k : Nat) : Int)))), (5, .int (iZ ((((k + j) : Nat) : Int))))] := hl
          refine pb_iload C dX3_largestSquare_59 (lv_at hl 1 rfl) ?_
          refine pb_go_x (bc' := 0) (bs' := 0) (pb_runS (rest := []) C hG (met_X3_widest l ((bF (mg S s) k (j + 1))) (Nat.lt_of_lt_of_le (bF_lt (mg S s) k (j + 1)) (by decide))) (lw_S q2021 q2022 q60 q2023) hdX3_widest rfl hl.1 rfl (Nat.le_of_ble_eq_true rfl) ⟨(Nat.le_of_ble_eq_true rfl), (Nat.le_of_ble_eq_true rfl)⟩ dX3_largestSquare_61) (by omega) (by omega) ?_
          refine pb_iload C dX3_largestSquare_64 (lv_at hl 0 rfl) ?_
          refine pb_icmp_ge C dX3_largestSquare_66 (x := (((widF ((bF (mg S s) k (j + 1)))) : Nat) : Int)) (y := (((j + 1) : Nat) : Int)) (tgt := 77) (by decide) (by omega) (by omega) (fun c66_ => ?_) (fun c66_ => ?_)
          · refine pb_iload C dX3_largestSquare_77 (lv_at hl 0 rfl) ?_
            refine pb_istore C dX3_largestSquare_79 hl (by decide) rfl fun ls hl => ?_
            have hl : lv_has ls 8 [(7, .int (iZ ((((j + 1) : Nat) : Int)))), (6, .int (iZ ((((j + 1) : Nat) : Int)))), (4, .int (iZ ((((bF (mg S s) k (j + 1)) : Nat) : Int)))), (0, .ref (o)), (1, .int (iZ (((s : Nat) : Int)))), (2, .int (iZ (((t2 : Nat) : Int)))), (3, .int (iZ (((k : Nat) : Int)))), (5, .int (iZ ((((k + j) : Nat) : Int))))] := hl
            refine pb_iload C dX3_largestSquare_81 (lv_at hl 0 rfl) ?_
            refine pb_iload_n C dX3_largestSquare_83 rfl (lv_at hl 5 rfl) ?_
            refine pb_icmp_le C dX3_largestSquare_84 (x := (((j + 1) : Nat) : Int)) (y := ((t2 : Nat) : Int)) (tgt := 90) (by decide) (by omega) (by omega) (fun c84_ => ?_) (fun c84_ => ?_)
            · refine pb_iinc C dX3_largestSquare_90 hl (j := 7) (x := ((((k + j) : Nat) : Int))) rfl (by decide) rfl fun ls hl => ?_
              have hl : lv_has ls 8 [(5, .int (iZ (((((k + j) + 1) : Nat) : Int)))), (7, .int (iZ ((((j + 1) : Nat) : Int)))), (6, .int (iZ ((((j + 1) : Nat) : Int)))), (4, .int (iZ ((((bF (mg S s) k (j + 1)) : Nat) : Int)))), (0, .ref (o)), (1, .int (iZ (((s : Nat) : Int)))), (2, .int (iZ (((t2 : Nat) : Int)))), (3, .int (iZ (((k : Nat) : Int))))] := hl
              refine pb_goto C dX3_largestSquare_93 (tgt := 27) (by decide) ?_
              exact pb_V.mono (by omega) (by omega) (ih27 _ (by omega) (j + 1) t2 H rfl hG hM hF (by omega) (by omega) (by rw [mxf, show inS (mg S s) k j = min (widF (bF (mg S s) k (j + 1))) (j + 1) from rfl]; omega) (by omega) ls (lv_sub hl [4, 5, 6, 7, 3, 0] rfl))
            · refine pb_iload C dX3_largestSquare_87 (lv_at hl 0 rfl) ?_
              refine pb_istore_n C dX3_largestSquare_89 rfl hl (by decide) rfl fun ls hl => ?_
              have hl : lv_has ls 8 [(2, .int (iZ ((((j + 1) : Nat) : Int)))), (7, .int (iZ ((((j + 1) : Nat) : Int)))), (6, .int (iZ ((((j + 1) : Nat) : Int)))), (4, .int (iZ ((((bF (mg S s) k (j + 1)) : Nat) : Int)))), (0, .ref (o)), (1, .int (iZ (((s : Nat) : Int)))), (3, .int (iZ (((k : Nat) : Int)))), (5, .int (iZ ((((k + j) : Nat) : Int))))] := hl
              refine pb_iinc C dX3_largestSquare_90 hl (j := 7) (x := ((((k + j) : Nat) : Int))) rfl (by decide) rfl fun ls hl => ?_
              have hl : lv_has ls 8 [(5, .int (iZ (((((k + j) + 1) : Nat) : Int)))), (2, .int (iZ ((((j + 1) : Nat) : Int)))), (7, .int (iZ ((((j + 1) : Nat) : Int)))), (6, .int (iZ ((((j + 1) : Nat) : Int)))), (4, .int (iZ ((((bF (mg S s) k (j + 1)) : Nat) : Int)))), (0, .ref (o)), (1, .int (iZ (((s : Nat) : Int)))), (3, .int (iZ (((k : Nat) : Int))))] := hl
              refine pb_goto C dX3_largestSquare_93 (tgt := 27) (by decide) ?_
              exact pb_V.mono (by omega) (by omega) (ih27 _ (by omega) (j + 1) (j + 1) H rfl hG hM hF (by omega) (by omega) (by rw [mxf, show inS (mg S s) k j = min (widF (bF (mg S s) k (j + 1))) (j + 1) from rfl]; omega) (by omega) ls (lv_sub hl [5, 6, 1, 7, 4, 0] rfl))
          · refine pb_iload C dX3_largestSquare_69 (lv_at hl 1 rfl) ?_
            refine pb_go_x (bc' := 0) (bs' := 0) (pb_runS (rest := []) C hG (met_X3_widest l ((bF (mg S s) k (j + 1))) (Nat.lt_of_lt_of_le (bF_lt (mg S s) k (j + 1)) (by decide))) (lw_S q2021 q2022 q60 q2023) hdX3_widest rfl hl.1 rfl (Nat.le_of_ble_eq_true rfl) ⟨(Nat.le_of_ble_eq_true rfl), (Nat.le_of_ble_eq_true rfl)⟩ dX3_largestSquare_71) (by omega) (by omega) ?_
            refine pb_goto C dX3_largestSquare_74 (tgt := 79) (by decide) ?_
            refine pb_istore C dX3_largestSquare_79 hl (by decide) rfl fun ls hl => ?_
            have hl : lv_has ls 8 [(7, .int (iZ ((((widF ((bF (mg S s) k (j + 1)))) : Nat) : Int)))), (6, .int (iZ ((((j + 1) : Nat) : Int)))), (4, .int (iZ ((((bF (mg S s) k (j + 1)) : Nat) : Int)))), (0, .ref (o)), (1, .int (iZ (((s : Nat) : Int)))), (2, .int (iZ (((t2 : Nat) : Int)))), (3, .int (iZ (((k : Nat) : Int)))), (5, .int (iZ ((((k + j) : Nat) : Int))))] := hl
            refine pb_iload C dX3_largestSquare_81 (lv_at hl 0 rfl) ?_
            refine pb_iload_n C dX3_largestSquare_83 rfl (lv_at hl 5 rfl) ?_
            refine pb_icmp_le C dX3_largestSquare_84 (x := (((widF ((bF (mg S s) k (j + 1)))) : Nat) : Int)) (y := ((t2 : Nat) : Int)) (tgt := 90) (by decide) (by omega) (by omega) (fun c84_ => ?_) (fun c84_ => ?_)
            · refine pb_iinc C dX3_largestSquare_90 hl (j := 7) (x := ((((k + j) : Nat) : Int))) rfl (by decide) rfl fun ls hl => ?_
              have hl : lv_has ls 8 [(5, .int (iZ (((((k + j) + 1) : Nat) : Int)))), (7, .int (iZ ((((widF ((bF (mg S s) k (j + 1)))) : Nat) : Int)))), (6, .int (iZ ((((j + 1) : Nat) : Int)))), (4, .int (iZ ((((bF (mg S s) k (j + 1)) : Nat) : Int)))), (0, .ref (o)), (1, .int (iZ (((s : Nat) : Int)))), (2, .int (iZ (((t2 : Nat) : Int)))), (3, .int (iZ (((k : Nat) : Int))))] := hl
              refine pb_goto C dX3_largestSquare_93 (tgt := 27) (by decide) ?_
              exact pb_V.mono (by omega) (by omega) (ih27 _ (by omega) (j + 1) t2 H rfl hG hM hF (by omega) (by omega) (by rw [mxf, show inS (mg S s) k j = min (widF (bF (mg S s) k (j + 1))) (j + 1) from rfl]; omega) (by omega) ls (lv_sub hl [4, 5, 6, 7, 3, 0] rfl))
            · refine pb_iload C dX3_largestSquare_87 (lv_at hl 0 rfl) ?_
              refine pb_istore_n C dX3_largestSquare_89 rfl hl (by decide) rfl fun ls hl => ?_
              have hl : lv_has ls 8 [(2, .int (iZ ((((widF ((bF (mg S s) k (j + 1)))) : Nat) : Int)))), (7, .int (iZ ((((widF ((bF (mg S s) k (j + 1)))) : Nat) : Int)))), (6, .int (iZ ((((j + 1) : Nat) : Int)))), (4, .int (iZ ((((bF (mg S s) k (j + 1)) : Nat) : Int)))), (0, .ref (o)), (1, .int (iZ (((s : Nat) : Int)))), (3, .int (iZ (((k : Nat) : Int)))), (5, .int (iZ ((((k + j) : Nat) : Int))))] := hl
              refine pb_iinc C dX3_largestSquare_90 hl (j := 7) (x := ((((k + j) : Nat) : Int))) rfl (by decide) rfl fun ls hl => ?_
              have hl : lv_has ls 8 [(5, .int (iZ (((((k + j) + 1) : Nat) : Int)))), (2, .int (iZ ((((widF ((bF (mg S s) k (j + 1)))) : Nat) : Int)))), (7, .int (iZ ((((widF ((bF (mg S s) k (j + 1)))) : Nat) : Int)))), (6, .int (iZ ((((j + 1) : Nat) : Int)))), (4, .int (iZ ((((bF (mg S s) k (j + 1)) : Nat) : Int)))), (0, .ref (o)), (1, .int (iZ (((s : Nat) : Int)))), (3, .int (iZ (((k : Nat) : Int))))] := hl
              refine pb_goto C dX3_largestSquare_93 (tgt := 27) (by decide) ?_
              exact pb_V.mono (by omega) (by omega) (ih27 _ (by omega) (j + 1) (widF ((bF (mg S s) k (j + 1)))) H rfl hG hM hF (by omega) (by omega) (by rw [mxf, show inS (mg S s) k j = min (widF (bF (mg S s) k (j + 1))) (j + 1) from rfl]; omega) (by omega) ls (lv_sub hl [5, 6, 1, 7, 4, 0] rfl))
    refine pb_iload_n C dX3_largestSquare_14 rfl (lv_at hl 3 rfl) ?_
    refine pb_bip C dX3_largestSquare_15 (by decide) ?_
    refine pb_icmp_ge C dX3_largestSquare_17 (x := ((k : Nat) : Int)) (y := 24) (tgt := 102) (by decide) (by omega) (by omega) (fun c17_ => ?_) (fun c17_ => ?_)
    · refine pb_iload_n C dX3_largestSquare_102 rfl (lv_at hl 2 rfl) ?_
      exact pb_iret C dX3_largestSquare_103 (⟨_, rfl, by rw [ht, show k = 24 from by omega]; rfl, hM, hF⟩)
    · refine pb_ldc C dX3_largestSquare_20 q1916 (16777215) (by decide +kernel) ?_
      refine pb_istore C dX3_largestSquare_22 hl (by decide) rfl fun ls hl => ?_
      have hl : lv_has ls 8 [(4, .int (iZ (16777215))), (0, .ref (o)), (1, .int (iZ (((s : Nat) : Int)))), (2, .int (iZ (((t : Nat) : Int)))), (3, .int (iZ (((k : Nat) : Int))))] := hl
      refine pb_iload_n C dX3_largestSquare_24 rfl (lv_at hl 4 rfl) ?_
      refine pb_istore C dX3_largestSquare_25 hl (by decide) rfl fun ls hl => ?_
      have hl : lv_has ls 8 [(5, .int (iZ (((k : Nat) : Int)))), (4, .int (iZ (16777215))), (0, .ref (o)), (1, .int (iZ (((s : Nat) : Int)))), (2, .int (iZ (((t : Nat) : Int)))), (3, .int (iZ (((k : Nat) : Int))))] := hl
      exact pb_V.mono (by omega) (by omega) (L27 _ 0 t H rfl hG hM hF (by omega) (by omega) (by rw [mxf]; omega) (by omega) ls (lv_sub hl [2, 3, 4, 5, 1, 0] rfl))
  refine pb_aload_n C dX3_largestSquare_0 rfl (lv_at hl 0 rfl) ?_
  refine pb_iload_n C dX3_largestSquare_1 rfl (lv_at hl 1 rfl) ?_
  refine pb_go_i (bc' := 0) (bs' := 0) (pb_runV (rest := []) C hG (met_X3_looks l o S hM s hs) hO.r (ci := 2) rfl (lw_V q1937 q1939 qs40 q60 q1940) ⟨rfl, hdX3_looks⟩ rfl hl.1 rfl (Nat.le_of_ble_eq_true rfl) ⟨(Nat.le_of_ble_eq_true rfl), (Nat.le_of_ble_eq_true rfl)⟩ dX3_largestSquare_2) (by omega) (by omega) (fun z_ H_ hp_ => ?_)
  obtain ⟨rfl, hM, hF⟩ := hp_
  have hG := hG.kept (hF.z hz)
  have hO := hM.2.1
  refine pb_if_ne C dX3_largestSquare_5 (x := 1) (tgt := 10) (by decide) (by omega) (fun c5_ => ?_) (fun c5_ => ?_)
  · refine pb_ic C dX3_largestSquare_10 ?_
    refine pb_istore_n C dX3_largestSquare_11 rfl hl (by decide) rfl fun ls hl => ?_
    have hl : lv_has ls 8 [(2, .int (iZ (0))), (0, .ref (o)), (1, .int (iZ (((s : Nat) : Int))))] := hl
    refine pb_ic C dX3_largestSquare_12 ?_
    refine pb_istore_n C dX3_largestSquare_13 rfl hl (by decide) rfl fun ls hl => ?_
    have hl : lv_has ls 8 [(3, .int (iZ (0))), (2, .int (iZ (0))), (0, .ref (o)), (1, .int (iZ (((s : Nat) : Int))))] := hl
    exact pb_V.mono (by omega) (by omega) (L14 _ 0 0 H_ rfl hG hM hF (by omega) rfl (by omega) ls (lv_sub hl [2, 3, 1, 0] rfl))
  · exact absurd c5_ (by decide)

set_option maxHeartbeats 1000000 in
theorem met_X3_largestSquare_1 {w : pb_W} (l : Launch) {H0 : Heap} (o : Nat) (S : mS) (hM : MW w H0 o S) (s : Int) (hsr : -2147483648 ≤ s ∧ s ≤ 2147483647) (hs : ¬ (0 ≤ s ∧ s ≤ 7)) : pb_M w l yX3_largestSquare cX3_largestSquare 8 (some .int) 5 (0) (0) [.ref (o), .int (iZ (s))] H0 (pb_qi (fun z H1 => z = 0 ∧ MW w H1 o (mI S 0 1) ∧ mF o H0 H1)) := by
  refine pb_of (by decide +kernel) (Nat.le_of_ble_eq_true rfl) ?_
  intro p_ e_ s_ m_ ar_ bl_ me_ co_ ls C hh hG hl
  have hl : lv_has ls 8 [(0, .ref (o)), (1, .int (iZ (s)))] := hl
  have hM0 := hM; obtain ⟨hz, hO, hA1, hA2, hA3, hA4, hA5, hA6, hA7, hA8, hA9, hA10, hA11, hA12⟩ := hM0
  have hF : mF o H0 H0 := mF.rf
  refine pb_aload_n C dX3_largestSquare_0 rfl (lv_at hl 0 rfl) ?_
  refine pb_iload_n C dX3_largestSquare_1 rfl (lv_at hl 1 rfl) ?_
  refine pb_go_i (bc' := 0) (bs' := 0) (pb_runV (rest := []) C hG (met_X3_looks_1 l o S hM s hsr hs) hO.r (ci := 2) rfl (lw_V q1937 q1939 qs40 q60 q1940) ⟨rfl, hdX3_looks⟩ rfl hl.1 rfl (Nat.le_of_ble_eq_true rfl) ⟨(Nat.le_of_ble_eq_true rfl), (Nat.le_of_ble_eq_true rfl)⟩ dX3_largestSquare_2) (by omega) (by omega) (fun z_ H_ hp_ => ?_)
  obtain ⟨rfl, hM, hF⟩ := hp_
  refine pb_if_ne C dX3_largestSquare_5 (x := 0) (tgt := 10) (by decide) (by omega) (fun c5_ => ?_) (fun c5_ => ?_)
  · exact absurd c5_ (by decide)
  · refine pb_ic C dX3_largestSquare_8 ?_
    exact pb_iret C dX3_largestSquare_9 (⟨_, rfl, rfl, hM, hF⟩)

set_option maxHeartbeats 1000000 in
theorem met_X3_largestSquareByCells {w : pb_W} (l : Launch) {H0 : Heap} (o : Nat) (S : mS) (hM : MW w H0 o S) (s : Nat) (hs : s < 8) (hb : mok S) : pb_M w l yX3_largestSquareByCells cX3_largestSquareByCells 2 (some .int) 6 (0) (0) [.ref (o), .int (iZ (((s : Nat) : Int)))] H0 (pb_qi (fun z H1 => z = ((larS (mg S s) : Nat) : Int) ∧ MW w H1 o (mI S 0 0) ∧ mF o H0 H1)) := by
  refine pb_of (by decide +kernel) (Nat.le_of_ble_eq_true rfl) ?_
  intro p_ e_ s_ m_ ar_ bl_ me_ co_ ls C hh hG hl
  have hl : lv_has ls 2 [(0, .ref (o)), (1, .int (iZ (((s : Nat) : Int))))] := hl
  have hM0 := hM; obtain ⟨hz, hO, hA1, hA2, hA3, hA4, hA5, hA6, hA7, hA8, hA9, hA10, hA11, hA12⟩ := hM0
  have hF : mF o H0 H0 := mF.rf
  refine pb_aload_n C dX3_largestSquareByCells_0 rfl (lv_at hl 0 rfl) ?_
  refine pb_iload_n C dX3_largestSquareByCells_1 rfl (lv_at hl 1 rfl) ?_
  refine pb_go_i (bc' := 0) (bs' := 0) (pb_runV (rest := []) C hG (met_X3_largestSquare l o S hM s hs hb) hO.r (ci := 2) rfl (lw_V q2037 q2030 q2031 q60 q2032) ⟨rfl, hdX3_largestSquare⟩ rfl hl.1 rfl (Nat.le_of_ble_eq_true rfl) ⟨(Nat.le_of_ble_eq_true rfl), (Nat.le_of_ble_eq_true rfl)⟩ dX3_largestSquareByCells_2) (by omega) (by omega) (fun z_ H_ hp_ => ?_)
  obtain ⟨hz_, hM, hF⟩ := hp_
  exact pb_iret C dX3_largestSquareByCells_5 (⟨_, rfl, hz_, hM, hF⟩)

set_option maxHeartbeats 1000000 in
theorem met_X3_largestSquareByCells_1 {w : pb_W} (l : Launch) {H0 : Heap} (o : Nat) (S : mS) (hM : MW w H0 o S) (s : Int) (hsr : -2147483648 ≤ s ∧ s ≤ 2147483647) (hs : ¬ (0 ≤ s ∧ s ≤ 7)) : pb_M w l yX3_largestSquareByCells cX3_largestSquareByCells 2 (some .int) 6 (0) (0) [.ref (o), .int (iZ (s))] H0 (pb_qi (fun z H1 => z = 0 ∧ MW w H1 o (mI S 0 1) ∧ mF o H0 H1)) := by
  refine pb_of (by decide +kernel) (Nat.le_of_ble_eq_true rfl) ?_
  intro p_ e_ s_ m_ ar_ bl_ me_ co_ ls C hh hG hl
  have hl : lv_has ls 2 [(0, .ref (o)), (1, .int (iZ (s)))] := hl
  have hM0 := hM; obtain ⟨hz, hO, hA1, hA2, hA3, hA4, hA5, hA6, hA7, hA8, hA9, hA10, hA11, hA12⟩ := hM0
  have hF : mF o H0 H0 := mF.rf
  refine pb_aload_n C dX3_largestSquareByCells_0 rfl (lv_at hl 0 rfl) ?_
  refine pb_iload_n C dX3_largestSquareByCells_1 rfl (lv_at hl 1 rfl) ?_
  refine pb_go_i (bc' := 0) (bs' := 0) (pb_runV (rest := []) C hG (met_X3_largestSquare_1 l o S hM s hsr hs) hO.r (ci := 2) rfl (lw_V q2037 q2030 q2031 q60 q2032) ⟨rfl, hdX3_largestSquare⟩ rfl hl.1 rfl (Nat.le_of_ble_eq_true rfl) ⟨(Nat.le_of_ble_eq_true rfl), (Nat.le_of_ble_eq_true rfl)⟩ dX3_largestSquareByCells_2) (by omega) (by omega) (fun z_ H_ hp_ => ?_)
  obtain ⟨rfl, hM, hF⟩ := hp_
  exact pb_iret C dX3_largestSquareByCells_5 (⟨_, rfl, rfl, hM, hF⟩)

