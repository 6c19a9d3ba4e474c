set_option maxRecDepth 100000
set_option maxHeartbeats 1000000 in
theorem met_X3_fill {w : pb_W} (l : Launch) {H0 : Heap} (o : Nat) (S : mS) (hM : MW w H0 o S) (s : Nat) (hs : s < 8) (hb : mok S) (a b c d : Nat) (h1 : a < c) (h2 : b < d) (h3 : c ≤ 24) (h4 : d ≤ 24) : pb_M w l yX3_fill cX3_fill 8 (some .int) 5 (0) (0) [.ref (o), .int (iZ (((s : Nat) : Int))), .int (iZ (((a : Nat) : Int))), .int (iZ (((b : Nat) : Int))), .int (iZ (((c : Nat) : Int))), .int (iZ (((d : Nat) : Int)))] H0 (pb_qi (fun z H1 => z = ((cnt (mg (mB (mI S 0 0) 0 (rowsF S s b d (fun y => S.2.1 0 (24 * s + y) ||| rngm a c))) s) : Nat) : Int) - ((cnt (mg S s) : Nat) : Int) ∧ MW w H1 o (mB (mI S 0 0) 0 (rowsF S s b d (fun y => S.2.1 0 (24 * s + y) ||| rngm a c))) ∧ mF o H0 H1)) := by
  refine pb_of (by decide +kernel) (Nat.le_of_ble_eq_true rfl) ?_
  intro p_ e_ s_ m_ ar_ bl_ me_ co_ ls C hh hG hl
  have hl : lv_has ls 8 [(0, .ref (o)), (1, .int (iZ (((s : Nat) : Int)))), (2, .int (iZ (((a : Nat) : Int)))), (3, .int (iZ (((b : Nat) : Int)))), (4, .int (iZ (((c : Nat) : Int)))), (5, .int (iZ (((d : Nat) : Int))))] := hl
  have hM0 := hM; obtain ⟨hz, hO, hA1, hA2, hA3, hA4, hA5, hA6, hA7, hA8, hA9, hA10, hA11, hA12⟩ := hM0
  have hF : mF o H0 H0 := mF.rf
  have L51 : ∀ (n_ : Nat) (k : Nat) (H : Heap), d - k = n_ → (pb_G w s_ H) → (b ≤ k ∧ k ≤ d) → (MW w H o (mB (mI S 0 0) 0 (rowsF S s b k (fun y => S.2.1 0 (24 * s + y) ||| rngm a c)))) → (mF o H0 H) → ∀ (ls : Array Slot), lv_has ls 8 [(0, .ref (o)), (1, .int (iZ (((s : Nat) : Int)))), (2, .int (iZ (((a : Nat) : Int)))), (4, .int (iZ (((c : Nat) : Int)))), (5, .int (iZ (((d : Nat) : Int)))), (6, .int (iZ ((((cnt (mg (mI S 0 0) s)) : Nat) : Int)))), (7, .int (iZ (((k : Nat) : Int))))] → pb_V w.2.2.2 p_ l e_ (pb_rm 5 (0) (0)) s_ m_ ar_ bl_ me_ co_ H (0) (0) (pb_E w bl_ ar_ s_ (0) (0) (pb_qi (fun z H1 => z = ((cnt (mg (mB (mI S 0 0) 0 (rowsF S s b d (fun y => S.2.1 0 (24 * s + y) ||| rngm a c))) s) : Nat) : Int) - ((cnt (mg S s) : Nat) : Int) ∧ MW w H1 o (mB (mI S 0 0) 0 (rowsF S s b d (fun y => S.2.1 0 (24 * s + y) ||| rngm a c))) ∧ mF o H0 H1))) (F0 m_ 51 ls []) := by
    intro n_
    induction n_ using Nat.strongRecOn with
    | _ n_ ih51 =>
    intro k H hm_ hG hk hM hF ls hl
    have hM0 := hM; obtain ⟨hz, hO, hA1, hA2, hA3, hA4, hA5, hA6, hA7, hA8, hA9, hA10, hA11, hA12⟩ := hM0
    have hO : pb_O w H o 2 [.int (iZ ((0))), .int (iZ ((S.1 1))), .ref (o + 1), .ref (o + 2), .ref (o + 3), .ref (o + 4), .ref (o + 5), .ref (o + 6), .ref (o + 7), .ref (o + 8), .ref (o + 9), .ref (o + 10), .ref (o + 11), .ref (o + 12), .int (iZ ((S.1 2))), .int (iZ ((S.1 3)))] := hO
    have hA1 : pb_A w H (o + 1) 0 192 (pb_nf (rowsF S s b k (fun y => S.2.1 0 (24 * s + y) ||| rngm a c))) := hA1
    have hA2 : pb_A w H (o + 2) 0 24 (pb_nf (S.2.1 1)) := hA2
    have hA3 : pb_A w H (o + 3) 0 26 (pb_nf (S.2.1 2)) := hA3
    have hA4 : pb_A w H (o + 4) 0 26 (pb_nf (S.2.1 3)) := hA4
    have hA5 : pb_A w H (o + 5) 0 40 (pb_zf (S.2.2 0)) := hA5
    have hA6 : pb_A w H (o + 6) 0 40 (pb_zf (S.2.2 1)) := hA6
    have hA7 : pb_A w H (o + 7) 0 576 (pb_zf (S.2.2 2)) := hA7
    have hA8 : pb_A w H (o + 8) 0 1300 (pb_zf (S.2.2 3)) := hA8
    have hA9 : pb_A w H (o + 9) 0 1300 (pb_zf (S.2.2 4)) := hA9
    have hA10 : pb_A w H (o + 10) 0 400 (pb_zf (S.2.2 5)) := hA10
    have hA11 : pb_A w H (o + 11) 0 400 (pb_zf (S.2.2 6)) := hA11
    have hA12 : pb_A w H (o + 12) 0 625 (pb_nf (S.2.1 4)) := hA12
    refine pb_iload C dX3_fill_51 (lv_at hl 6 rfl) ?_
    refine pb_iload C dX3_fill_53 (lv_at hl 4 rfl) ?_
    refine pb_icmp_ge C dX3_fill_55 (x := ((k : Nat) : Int)) (y := ((d : Nat) : Int)) (tgt := 85) (by decide) (by omega) (by omega) (fun c55_ => ?_) (fun c55_ => ?_)
    · obtain rfl : k = d := by omega
      refine pb_aload_n C dX3_fill_85 rfl (lv_at hl 0 rfl) ?_
      refine pb_iload_n C dX3_fill_86 rfl (lv_at hl 1 rfl) ?_
      refine pb_go_x (bc' := 0) (bs' := 0) (pb_runV (rest := []) C hG (met_X3_count l o ((mB (mI S 0 0) 0 (rowsF S s b k (fun y => S.2.1 0 (24 * s + y) ||| rngm a c)))) hM s hs (mok_rowsF (S := S) hb rfl (fun y _ hy => or_lt24 (hb _ (by omega)) (rngm_lt h3)))) hO.r (ci := 2) rfl (lw_V q1803 q1805 qs27 q60 q1806) ⟨rfl, hdX3_count⟩ rfl hl.1 rfl (Nat.le_of_ble_eq_true rfl) ⟨(Nat.le_of_ble_eq_true rfl), (Nat.le_of_ble_eq_true rfl)⟩ dX3_fill_87) (by omega) (by omega) ?_
      refine pb_iload C dX3_fill_90 (lv_at hl 5 rfl) ?_
      refine pb_isub C dX3_fill_92 ?_
      exact pb_iret C dX3_fill_93 (⟨_, rfl, rfl, ⟨hz, hO, hA1, hA2, hA3, hA4, hA5, hA6, hA7, hA8, hA9, hA10, hA11, hA12⟩, hF⟩)
    · refine pb_aload_n C dX3_fill_58 rfl (lv_at hl 0 rfl) ?_
      refine pb_get C in_X3 hO.r (ci := 2) rfl 2 (by decide) q1739 (fun _ h9 => h9) (v := .ref (o + 1)) rfl dX3_fill_59 ?_
      refine pb_bip C dX3_fill_62 (by decide) ?_
      refine pb_iload_n C dX3_fill_64 rfl (lv_at hl 1 rfl) ?_
      refine pb_imul C dX3_fill_65 ?_
      refine pb_iload C dX3_fill_66 (lv_at hl 6 rfl) ?_
      refine pb_iadd C dX3_fill_68 ?_
      refine pb_dup2 C dX3_fill_69 rfl rfl ?_
      refine pb_iald C hA1.b (i := ((((24 * s) + k) : Nat) : Int)) (v := .int (iZ ((((S.2.1 0 (24 * s + k)) : Nat) : Int)))) (by omega) (congrArg (fun n : Nat => Value.int (iZ (n : Int))) (rowsF_at S s b k _)) dX3_fill_70 ?_
      refine pb_iload_n C dX3_fill_71 rfl (lv_at hl 2 rfl) ?_
      refine pb_iload C dX3_fill_72 (lv_at hl 3 rfl) ?_
      refine pb_go_x (bc' := 0) (bs' := 0) (pb_runS (rest := [.int (iZ ((((S.2.1 0 (24 * s + k)) : Nat) : Int))), .int (iZ (((((24 * s) + k) : Nat) : Int))), .ref (o + 1)]) C hG (met_X3_range l a c (by omega) (by omega)) (lw_S q1814 q1815 q60 q1816) hdX3_range rfl hl.1 rfl (Nat.le_of_ble_eq_true rfl) ⟨(Nat.le_of_ble_eq_true rfl), (Nat.le_of_ble_eq_true rfl)⟩ dX3_fill_74) (by omega) (by omega) ?_
      refine pb_ior C dX3_fill_77 (x := (S.2.1 0 (24 * s + k))) (y := (rngm a c)) ?_
      refine pb_iast C hA1 (i := ((((24 * s) + k) : Nat) : Int)) (by omega) (by omega) dX3_fill_78 fun H1_ hu_ hA1 => ?_
      rw [pb_upN, Int.toNat_natCast, rowsF_step S s b k (fun y => S.2.1 0 (24 * s + y) ||| rngm a c) hk.1 rfl] at hA1
      have hG := hG.kept (hu_.z (by omega))
      have hO := hO.kept (hu_.2 _ (by omega))
      have hA2 := hA2.kept (hu_.2 _ (by omega))
      have hA3 := hA3.kept (hu_.2 _ (by omega))
      have hA4 := hA4.kept (hu_.2 _ (by omega))
      have hA5 := hA5.kept (hu_.2 _ (by omega))
      have hA6 := hA6.kept (hu_.2 _ (by omega))
      have hA7 := hA7.kept (hu_.2 _ (by omega))
      have hA8 := hA8.kept (hu_.2 _ (by omega))
      have hA9 := hA9.kept (hu_.2 _ (by omega))
      have hA10 := hA10.kept (hu_.2 _ (by omega))
      have hA11 := hA11.kept (hu_.2 _ (by omega))
      have hA12 := hA12.kept (hu_.2 _ (by omega))
      have hF := hF.up hu_ (by omega)
      refine pb_iinc C dX3_fill_79 hl (j := 6) (x := (((k : Nat) : Int))) rfl (by decide) rfl fun ls hl => ?_
      have hl : lv_has ls 8 [(7, .int (iZ ((((k + 1) : Nat) : Int)))), (0, .ref (o)), (1, .int (iZ (((s : Nat) : Int)))), (2, .int (iZ (((a : Nat) : Int)))), (4, .int (iZ (((c : Nat) : Int)))), (5, .int (iZ (((d : Nat) : Int)))), (6, .int (iZ ((((cnt (mg (mI S 0 0) s)) : Nat) : Int))))] := hl
      refine pb_goto C dX3_fill_82 (tgt := 51) (by decide) ?_
      exact pb_V.mono (by omega) (by omega) (ih51 _ (by omega) (k + 1) H1_ rfl hG (by omega) ⟨hz, hO, hA1, hA2, hA3, hA4, hA5, hA6, hA7, hA8, hA9, hA10, hA11, hA12⟩ hF ls (lv_sub hl [1, 2, 3, 4, 5, 6, 0] rfl))
  refine pb_aload_n C dX3_fill_0 rfl (lv_at hl 0 rfl) ?_
  refine pb_iload_n C dX3_fill_1 rfl (lv_at hl 1 rfl) ?_
  refine pb_go_x (bc' := 0) (bs' := 0) (pb_runS (rest := [.ref (o)]) C hG (met_X3_isSheet l (((s : Nat) : Int)) (by omega)) (lw_S q1794 q1795 q60 q1796) hdX3_isSheet rfl hl.1 rfl (Nat.le_of_ble_eq_true rfl) ⟨(Nat.le_of_ble_eq_true rfl), (Nat.le_of_ble_eq_true rfl)⟩ dX3_fill_2) (by omega) (by omega) ?_
  refine pb_ifB_ne C dX3_fill_5 (tgt := 12) (by decide) (fun c5_ => ?_) (fun c5_ => ?_)
  · have c5_ := of_decide_eq_true c5_
    refine pb_iload_n C dX3_fill_12 rfl (lv_at hl 2 rfl) ?_
    refine pb_iload_n C dX3_fill_13 rfl (lv_at hl 3 rfl) ?_
    refine pb_iload C dX3_fill_14 (lv_at hl 4 rfl) ?_
    refine pb_iload C dX3_fill_16 (lv_at hl 5 rfl) ?_
    refine pb_go_x (bc' := 0) (bs' := 0) (pb_runS (rest := [.ref (o)]) C hG (met_X3_isBox l a b c d (by omega) (by omega) (by omega) (by omega)) (lw_S q1800 q1801 q60 q1802) hdX3_isBox rfl hl.1 rfl (Nat.le_of_ble_eq_true rfl) ⟨(Nat.le_of_ble_eq_true rfl), (Nat.le_of_ble_eq_true rfl)⟩ dX3_fill_18) (by omega) (by omega) ?_
    refine pb_ifB_ne C dX3_fill_21 (tgt := 28) (by decide) (fun c21_ => ?_) (fun c21_ => ?_)
    · have c21_ := of_decide_eq_true c21_
      refine pb_ic C dX3_fill_28 ?_
      refine pb_put C in_X3 tyX3 tyX3_ok nmX3 hO (ci := 2) rfl 0 (by decide) q1737 (fun _ h9 => h9) rfl (v := .int (iZ (0))) rfl rfl (Nat.le_of_ble_eq_true rfl) (by omega) dX3_fill_29 fun H2_ hu_ hO => ?_
      have hO : pb_O w H2_ (o) 2 [.int (iZ (0)), .int (iZ ((S.1 1))), .ref (o + 1), .ref (o + 2), .ref (o + 3), .ref (o + 4), .ref (o + 5), .ref (o + 6), .ref (o + 7), .ref (o + 8), .ref (o + 9), .ref (o + 10), .ref (o + 11), .ref (o + 12), .int (iZ ((S.1 2))), .int (iZ ((S.1 3)))] := hO
      have hG := hG.kept (hu_.z (by omega))
      have hA1 := hA1.kept (hu_.2 _ (by omega))
      have hA2 := hA2.kept (hu_.2 _ (by omega))
      have hA3 := hA3.kept (hu_.2 _ (by omega))
      have hA4 := hA4.kept (hu_.2 _ (by omega))
      have hA5 := hA5.kept (hu_.2 _ (by omega))
      have hA6 := hA6.kept (hu_.2 _ (by omega))
      have hA7 := hA7.kept (hu_.2 _ (by omega))
      have hA8 := hA8.kept (hu_.2 _ (by omega))
      have hA9 := hA9.kept (hu_.2 _ (by omega))
      have hA10 := hA10.kept (hu_.2 _ (by omega))
      have hA11 := hA11.kept (hu_.2 _ (by omega))
      have hA12 := hA12.kept (hu_.2 _ (by omega))
      have hF := hF.up hu_ (by omega)
      refine pb_aload_n C dX3_fill_32 rfl (lv_at hl 0 rfl) ?_
      refine pb_get C in_X3 hO.r (ci := 2) rfl 0 (by decide) q1737 (fun _ h9 => h9) (v := .int (iZ (0))) rfl dX3_fill_33 ?_
      refine pb_if_eq C dX3_fill_36 (x := 0) (tgt := 41) (by decide) (by omega) (fun c36_ => ?_) (fun c36_ => ?_)
      · refine pb_aload_n C dX3_fill_41 rfl (lv_at hl 0 rfl) ?_
        refine pb_iload_n C dX3_fill_42 rfl (lv_at hl 1 rfl) ?_
        refine pb_go_x (bc' := 0) (bs' := 0) (pb_runV (rest := []) C hG (met_X3_count l o ((mI S 0 0)) ⟨hz, hO, hA1, hA2, hA3, hA4, hA5, hA6, hA7, hA8, hA9, hA10, hA11, hA12⟩ s hs hb) hO.r (ci := 2) rfl (lw_V q1803 q1805 qs27 q60 q1806) ⟨rfl, hdX3_count⟩ rfl hl.1 rfl (Nat.le_of_ble_eq_true rfl) ⟨(Nat.le_of_ble_eq_true rfl), (Nat.le_of_ble_eq_true rfl)⟩ dX3_fill_43) (by omega) (by omega) ?_
        refine pb_istore C dX3_fill_46 hl (by decide) rfl fun ls hl => ?_
        have hl : lv_has ls 8 [(6, .int (iZ ((((cnt (mg ((mI S 0 0)) s)) : Nat) : Int)))), (0, .ref (o)), (1, .int (iZ (((s : Nat) : Int)))), (2, .int (iZ (((a : Nat) : Int)))), (3, .int (iZ (((b : Nat) : Int)))), (4, .int (iZ (((c : Nat) : Int)))), (5, .int (iZ (((d : Nat) : Int))))] := hl
        refine pb_iload_n C dX3_fill_48 rfl (lv_at hl 4 rfl) ?_
        refine pb_istore C dX3_fill_49 hl (by decide) rfl fun ls hl => ?_
        have hl : lv_has ls 8 [(7, .int (iZ (((b : Nat) : Int)))), (6, .int (iZ ((((cnt (mg ((mI S 0 0)) s)) : Nat) : Int)))), (0, .ref (o)), (1, .int (iZ (((s : Nat) : Int)))), (2, .int (iZ (((a : Nat) : Int)))), (3, .int (iZ (((b : Nat) : Int)))), (4, .int (iZ (((c : Nat) : Int)))), (5, .int (iZ (((d : Nat) : Int))))] := hl
        exact pb_V.mono (by omega) (by omega) (L51 _ b H2_ rfl hG (by omega) (by rw [rowsF_0]; exact ⟨hz, hO, hA1, hA2, hA3, hA4, hA5, hA6, hA7, hA8, hA9, hA10, hA11, hA12⟩) hF ls (lv_sub hl [2, 3, 4, 6, 7, 1, 0] rfl))
      · exact absurd c36_ (by decide)
    · have c21_ := of_decide_eq_false c21_
      omega
  · have c5_ := of_decide_eq_false c5_
    omega

set_option maxHeartbeats 1000000 in
theorem met_X3_fill_1 {w : pb_W} (l : Launch) {H0 : Heap} (o : Nat) (S : mS) (hM : MW w H0 o S) (s : Int) (hsr : -2147483648 ≤ s ∧ s ≤ 2147483647) (hs : ¬ (0 ≤ s ∧ s ≤ 7)) (a b c d : Int) (ha : -2147483648 ≤ a ∧ a ≤ 2147483647) (hb : -2147483648 ≤ b ∧ b ≤ 2147483647) (hc : -2147483648 ≤ c ∧ c ≤ 2147483647) (hd : -2147483648 ≤ d ∧ d ≤ 2147483647) : pb_M w l yX3_fill cX3_fill 8 (some .int) 5 (0) (0) [.ref (o), .int (iZ (s)), .int (iZ (a)), .int (iZ (b)), .int (iZ (c)), .int (iZ (d))] H0 (pb_qi (fun z H1 => z = 0 ∧ MW w H1 o (mI S 0 1) ∧ mF o H0 H1)) := by
  refine pb_of (by decide +kernel) (Nat.le_of_ble_eq_true rfl) ?_
  intro p_ e_ s_ m_ ar_ bl_ me_ co_ ls C hh hG hl
  have hl : lv_has ls 8 [(0, .ref (o)), (1, .int (iZ (s))), (2, .int (iZ (a))), (3, .int (iZ (b))), (4, .int (iZ (c))), (5, .int (iZ (d)))] := hl
  have hM0 := hM; obtain ⟨hz, hO, hA1, hA2, hA3, hA4, hA5, hA6, hA7, hA8, hA9, hA10, hA11, hA12⟩ := hM0
  have hF : mF o H0 H0 := mF.rf
  refine pb_aload_n C dX3_fill_0 rfl (lv_at hl 0 rfl) ?_
  refine pb_iload_n C dX3_fill_1 rfl (lv_at hl 1 rfl) ?_
  refine pb_go_x (bc' := 0) (bs' := 0) (pb_runS (rest := [.ref (o)]) C hG (met_X3_isSheet l s (by omega)) (lw_S q1794 q1795 q60 q1796) hdX3_isSheet rfl hl.1 rfl (Nat.le_of_ble_eq_true rfl) ⟨(Nat.le_of_ble_eq_true rfl), (Nat.le_of_ble_eq_true rfl)⟩ dX3_fill_2) (by omega) (by omega) ?_
  refine pb_ifB_ne C dX3_fill_5 (tgt := 12) (by decide) (fun c5_ => ?_) (fun c5_ => ?_)
  · have c5_ := of_decide_eq_true c5_
    omega
  · have c5_ := of_decide_eq_false c5_
    refine pb_ic C dX3_fill_8 ?_
    refine pb_goto C dX3_fill_9 (tgt := 29) (by decide) ?_
    refine pb_put C in_X3 tyX3 tyX3_ok nmX3 hO (ci := 2) rfl 0 (by decide) q1737 (fun _ h9 => h9) rfl (v := .int (iZ (1))) rfl rfl (Nat.le_of_ble_eq_true rfl) (by omega) dX3_fill_29 fun H1_ hu_ hO => ?_
    have hO : pb_O w H1_ (o) 2 [.int (iZ (1)), .int (iZ ((S.1 1))), .ref (o + 1), .ref (o + 2), .ref (o + 3), .ref (o + 4), .ref (o + 5), .ref (o + 6), .ref (o + 7), .ref (o + 8), .ref (o + 9), .ref (o + 10), .ref (o + 11), .ref (o + 12), .int (iZ ((S.1 2))), .int (iZ ((S.1 3)))] := hO
    have hG := hG.kept (hu_.z (by omega))
    have hA1 := hA1.kept (hu_.2 _ (by omega))
    have hA2 := hA2.kept (hu_.2 _ (by omega))
    have hA3 := hA3.kept (hu_.2 _ (by omega))
    have hA4 := hA4.kept (hu_.2 _ (by omega))
    have hA5 := hA5.kept (hu_.2 _ (by omega))
    have hA6 := hA6.kept (hu_.2 _ (by omega))
    have hA7 := hA7.kept (hu_.2 _ (by omega))
    have hA8 := hA8.kept (hu_.2 _ (by omega))
    have hA9 := hA9.kept (hu_.2 _ (by omega))
    have hA10 := hA10.kept (hu_.2 _ (by omega))
    have hA11 := hA11.kept (hu_.2 _ (by omega))
    have hA12 := hA12.kept (hu_.2 _ (by omega))
    have hF := hF.up hu_ (by omega)
    refine pb_aload_n C dX3_fill_32 rfl (lv_at hl 0 rfl) ?_
    refine pb_get C in_X3 hO.r (ci := 2) rfl 0 (by decide) q1737 (fun _ h9 => h9) (v := .int (iZ (1))) rfl dX3_fill_33 ?_
    refine pb_if_eq C dX3_fill_36 (x := 1) (tgt := 41) (by decide) (by omega) (fun c36_ => ?_) (fun c36_ => ?_)
    · exact absurd c36_ (by decide)
    · refine pb_ic C dX3_fill_39 ?_
      exact pb_iret C dX3_fill_40 (⟨_, rfl, rfl, ⟨hz, hO, hA1, hA2, hA3, hA4, hA5, hA6, hA7, hA8, hA9, hA10, hA11, hA12⟩, hF⟩)

set_option maxHeartbeats 1000000 in
theorem met_X3_fill_2 {w : pb_W} (l : Launch) {H0 : Heap} (o : Nat) (S : mS) (hM : MW w H0 o S) (s : Nat) (hs : s < 8) (a b c d : Int) (ha : -2147483648 ≤ a ∧ a ≤ 2147483647) (hb : -2147483648 ≤ b ∧ b ≤ 2147483647) (hc : -2147483648 ≤ c ∧ c ≤ 2147483647) (hd : -2147483648 ≤ d ∧ d ≤ 2147483647) (hn : ¬ (0 ≤ a ∧ 0 ≤ b ∧ c ≤ 24 ∧ d ≤ 24 ∧ a < c ∧ b < d)) : pb_M w l yX3_fill cX3_fill 8 (some .int) 5 (0) (0) [.ref (o), .int (iZ (((s : Nat) : Int))), .int (iZ (a)), .int (iZ (b)), .int (iZ (c)), .int (iZ (d))] H0 (pb_qi (fun z H1 => z = 0 ∧ MW w H1 o (mI S 0 2) ∧ mF o H0 H1)) := by
  refine pb_of (by decide +kernel) (Nat.le_of_ble_eq_true rfl) ?_
  intro p_ e_ s_ m_ ar_ bl_ me_ co_ ls C hh hG hl
  have hl : lv_has ls 8 [(0, .ref (o)), (1, .int (iZ (((s : Nat) : Int)))), (2, .int (iZ (a))), (3, .int (iZ (b))), (4, .int (iZ (c))), (5, .int (iZ (d)))] := hl
  have hM0 := hM; obtain ⟨hz, hO, hA1, hA2, hA3, hA4, hA5, hA6, hA7, hA8, hA9, hA10, hA11, hA12⟩ := hM0
  have hF : mF o H0 H0 := mF.rf
  refine pb_aload_n C dX3_fill_0 rfl (lv_at hl 0 rfl) ?_
  refine pb_iload_n C dX3_fill_1 rfl (lv_at hl 1 rfl) ?_
  refine pb_go_x (bc' := 0) (bs' := 0) (pb_runS (rest := [.ref (o)]) C hG (met_X3_isSheet l (((s : Nat) : Int)) (by omega)) (lw_S q1794 q1795 q60 q1796) hdX3_isSheet rfl hl.1 rfl (Nat.le_of_ble_eq_true rfl) ⟨(Nat.le_of_ble_eq_true rfl), (Nat.le_of_ble_eq_true rfl)⟩ dX3_fill_2) (by omega) (by omega) ?_
  refine pb_ifB_ne C dX3_fill_5 (tgt := 12) (by decide) (fun c5_ => ?_) (fun c5_ => ?_)
  · have c5_ := of_decide_eq_true c5_
    refine pb_iload_n C dX3_fill_12 rfl (lv_at hl 2 rfl) ?_
    refine pb_iload_n C dX3_fill_13 rfl (lv_at hl 3 rfl) ?_
    refine pb_iload C dX3_fill_14 (lv_at hl 4 rfl) ?_
    refine pb_iload C dX3_fill_16 (lv_at hl 5 rfl) ?_
    refine pb_go_x (bc' := 0) (bs' := 0) (pb_runS (rest := [.ref (o)]) C hG (met_X3_isBox l a b c d ha hb hc hd) (lw_S q1800 q1801 q60 q1802) hdX3_isBox rfl hl.1 rfl (Nat.le_of_ble_eq_true rfl) ⟨(Nat.le_of_ble_eq_true rfl), (Nat.le_of_ble_eq_true rfl)⟩ dX3_fill_18) (by omega) (by omega) ?_
    refine pb_ifB_ne C dX3_fill_21 (tgt := 28) (by decide) (fun c21_ => ?_) (fun c21_ => ?_)
    · have c21_ := of_decide_eq_true c21_
      omega
    · have c21_ := of_decide_eq_false c21_
      refine pb_ic C dX3_fill_24 ?_
      refine pb_goto C dX3_fill_25 (tgt := 29) (by decide) ?_
      refine pb_put C in_X3 tyX3 tyX3_ok nmX3 hO (ci := 2) rfl 0 (by decide) q1737 (fun _ h9 => h9) rfl (v := .int (iZ (2))) rfl rfl (Nat.le_of_ble_eq_true rfl) (by omega) dX3_fill_29 fun H1_ hu_ hO => ?_
      have hO : pb_O w H1_ (o) 2 [.int (iZ (2)), .int (iZ ((S.1 1))), .ref (o + 1), .ref (o + 2), .ref (o + 3), .ref (o + 4), .ref (o + 5), .ref (o + 6), .ref (o + 7), .ref (o + 8), .ref (o + 9), .ref (o + 10), .ref (o + 11), .ref (o + 12), .int (iZ ((S.1 2))), .int (iZ ((S.1 3)))] := hO
      have hG := hG.kept (hu_.z (by omega))
      have hA1 := hA1.kept (hu_.2 _ (by omega))
      have hA2 := hA2.kept (hu_.2 _ (by omega))
      have hA3 := hA3.kept (hu_.2 _ (by omega))
      have hA4 := hA4.kept (hu_.2 _ (by omega))
      have hA5 := hA5.kept (hu_.2 _ (by omega))
      have hA6 := hA6.kept (hu_.2 _ (by omega))
      have hA7 := hA7.kept (hu_.2 _ (by omega))
      have hA8 := hA8.kept (hu_.2 _ (by omega))
      have hA9 := hA9.kept (hu_.2 _ (by omega))
      have hA10 := hA10.kept (hu_.2 _ (by omega))
      have hA11 := hA11.kept (hu_.2 _ (by omega))
      have hA12 := hA12.kept (hu_.2 _ (by omega))
      have hF := hF.up hu_ (by omega)
      refine pb_aload_n C dX3_fill_32 rfl (lv_at hl 0 rfl) ?_
      refine pb_get C in_X3 hO.r (ci := 2) rfl 0 (by decide) q1737 (fun _ h9 => h9) (v := .int (iZ (2))) rfl dX3_fill_33 ?_
      refine pb_if_eq C dX3_fill_36 (x := 2) (tgt := 41) (by decide) (by omega) (fun c36_ => ?_) (fun c36_ => ?_)
      · exact absurd c36_ (by decide)
      · refine pb_ic C dX3_fill_39 ?_
        exact pb_iret C dX3_fill_40 (⟨_, rfl, rfl, ⟨hz, hO, hA1, hA2, hA3, hA4, hA5, hA6, hA7, hA8, hA9, hA10, hA11, hA12⟩, hF⟩)
  · have c5_ := of_decide_eq_false c5_
    omega

set_option maxHeartbeats 1000000 in
theorem met_X3_erase {w : pb_W} (l : Launch) {H0 : Heap} (o : Nat) (S : mS) (hM : MW w H0 o S) (s : Nat) (hs : s < 8) (hb : mok S) (a b c d : Nat) (h1 : a < c) (h2 : b < d) (h3 : c ≤ 24) (h4 : d ≤ 24) : pb_M w l yX3_erase cX3_erase 8 (some .int) 5 (0) (0) [.ref (o), .int (iZ (((s : Nat) : Int))), .int (iZ (((a : Nat) : Int))), .int (iZ (((b : Nat) : Int))), .int (iZ (((c : Nat) : Int))), .int (iZ (((d : Nat) : Int)))] H0 (pb_qi (fun z H1 => z = ((cnt (mg S s) : Nat) : Int) - ((cnt (mg (mB (mI S 0 0) 0 (rowsF S s b d (fun y => pb_dif (S.2.1 0 (24 * s + y)) (rngm a c)))) s) : Nat) : Int) ∧ MW w H1 o (mB (mI S 0 0) 0 (rowsF S s b d (fun y => pb_dif (S.2.1 0 (24 * s + y)) (rngm a c)))) ∧ mF o H0 H1)) := by
  refine pb_of (by decide +kernel) (Nat.le_of_ble_eq_true rfl) ?_
  intro p_ e_ s_ m_ ar_ bl_ me_ co_ ls C hh hG hl
  have hl : lv_has ls 8 [(0, .ref (o)), (1, .int (iZ (((s : Nat) : Int)))), (2, .int (iZ (((a : Nat) : Int)))), (3, .int (iZ (((b : Nat) : Int)))), (4, .int (iZ (((c : Nat) : Int)))), (5, .int (iZ (((d : Nat) : Int))))] := hl
  have hM0 := hM; obtain ⟨hz, hO, hA1, hA2, hA3, hA4, hA5, hA6, hA7, hA8, hA9, hA10, hA11, hA12⟩ := hM0
  have hF : mF o H0 H0 := mF.rf
  have L51 : ∀ (n_ : Nat) (k : Nat) (H : Heap), d - k = n_ → (pb_G w s_ H) → (b ≤ k ∧ k ≤ d) → (MW w H o (mB (mI S 0 0) 0 (rowsF S s b k (fun y => pb_dif (S.2.1 0 (24 * s + y)) (rngm a c))))) → (mF o H0 H) → ∀ (ls : Array Slot), lv_has ls 8 [(0, .ref (o)), (1, .int (iZ (((s : Nat) : Int)))), (2, .int (iZ (((a : Nat) : Int)))), (4, .int (iZ (((c : Nat) : Int)))), (5, .int (iZ (((d : Nat) : Int)))), (6, .int (iZ ((((cnt (mg (mI S 0 0) s)) : Nat) : Int)))), (7, .int (iZ (((k : Nat) : Int))))] → pb_V w.2.2.2 p_ l e_ (pb_rm 5 (0) (0)) s_ m_ ar_ bl_ me_ co_ H (0) (0) (pb_E w bl_ ar_ s_ (0) (0) (pb_qi (fun z H1 => z = ((cnt (mg S s) : Nat) : Int) - ((cnt (mg (mB (mI S 0 0) 0 (rowsF S s b d (fun y => pb_dif (S.2.1 0 (24 * s + y)) (rngm a c)))) s) : Nat) : Int) ∧ MW w H1 o (mB (mI S 0 0) 0 (rowsF S s b d (fun y => pb_dif (S.2.1 0 (24 * s + y)) (rngm a c)))) ∧ mF o H0 H1))) (F0 m_ 51 ls []) := by
    intro n_
    induction n_ using Nat.strongRecOn with
    | _ n_ ih51 =>
    intro k H hm_ hG hk hM hF ls hl
    have hM0 := hM; obtain ⟨hz, hO, hA1, hA2, hA3, hA4, hA5, hA6, hA7, hA8, hA9, hA10, hA11, hA12⟩ := hM0
    have hO : pb_O w H o 2 [.int (iZ ((0))), .int (iZ ((S.1 1))), .ref (o + 1), .ref (o + 2), .ref (o + 3), .ref (o + 4), .ref (o + 5), .ref (o + 6), .ref (o + 7), .ref (o + 8), .ref (o + 9), .ref (o + 10), .ref (o + 11), .ref (o + 12), .int (iZ ((S.1 2))), .int (iZ ((S.1 3)))] := hO
    have hA1 : pb_A w H (o + 1) 0 192 (pb_nf (rowsF S s b k (fun y => pb_dif (S.2.1 0 (24 * s + y)) (rngm a c)))) := hA1
    have hA2 : pb_A w H (o + 2) 0 24 (pb_nf (S.2.1 1)) := hA2
    have hA3 : pb_A w H (o + 3) 0 26 (pb_nf (S.2.1 2)) := hA3
    have hA4 : pb_A w H (o + 4) 0 26 (pb_nf (S.2.1 3)) := hA4
    have hA5 : pb_A w H (o + 5) 0 40 (pb_zf (S.2.2 0)) := hA5
    have hA6 : pb_A w H (o + 6) 0 40 (pb_zf (S.2.2 1)) := hA6
    have hA7 : pb_A w H (o + 7) 0 576 (pb_zf (S.2.2 2)) := hA7
    have hA8 : pb_A w H (o + 8) 0 1300 (pb_zf (S.2.2 3)) := hA8
    have hA9 : pb_A w H (o + 9) 0 1300 (pb_zf (S.2.2 4)) := hA9
    have hA10 : pb_A w H (o + 10) 0 400 (pb_zf (S.2.2 5)) := hA10
    have hA11 : pb_A w H (o + 11) 0 400 (pb_zf (S.2.2 6)) := hA11
    have hA12 : pb_A w H (o + 12) 0 625 (pb_nf (S.2.1 4)) := hA12
    refine pb_iload C dX3_erase_51 (lv_at hl 6 rfl) ?_
    refine pb_iload C dX3_erase_53 (lv_at hl 4 rfl) ?_
    refine pb_icmp_ge C dX3_erase_55 (x := ((k : Nat) : Int)) (y := ((d : Nat) : Int)) (tgt := 87) (by decide) (by omega) (by omega) (fun c55_ => ?_) (fun c55_ => ?_)
    · obtain rfl : k = d := by omega
      refine pb_iload C dX3_erase_87 (lv_at hl 5 rfl) ?_
      refine pb_aload_n C dX3_erase_89 rfl (lv_at hl 0 rfl) ?_
      refine pb_iload_n C dX3_erase_90 rfl (lv_at hl 1 rfl) ?_
      refine pb_go_x (bc' := 0) (bs' := 0) (pb_runV (rest := [.int (iZ ((((cnt (mg (mI S 0 0) s)) : Nat) : Int)))]) C hG (met_X3_count l o ((mB (mI S 0 0) 0 (rowsF S s b k (fun y => pb_dif (S.2.1 0 (24 * s + y)) (rngm a c))))) hM s hs (mok_rowsF (S := S) hb rfl (fun y _ hy => dif_lt24 (hb _ (by omega))))) hO.r (ci := 2) rfl (lw_V q1803 q1805 qs27 q60 q1806) ⟨rfl, hdX3_count⟩ rfl hl.1 rfl (Nat.le_of_ble_eq_true rfl) ⟨(Nat.le_of_ble_eq_true rfl), (Nat.le_of_ble_eq_true rfl)⟩ dX3_erase_91) (by omega) (by omega) ?_
      refine pb_isub C dX3_erase_94 ?_
      exact pb_iret C dX3_erase_95 (⟨_, rfl, rfl, ⟨hz, hO, hA1, hA2, hA3, hA4, hA5, hA6, hA7, hA8, hA9, hA10, hA11, hA12⟩, hF⟩)
    · refine pb_aload_n C dX3_erase_58 rfl (lv_at hl 0 rfl) ?_
      refine pb_get C in_X3 hO.r (ci := 2) rfl 2 (by decide) q1739 (fun _ h9 => h9) (v := .ref (o + 1)) rfl dX3_erase_59 ?_
      refine pb_bip C dX3_erase_62 (by decide) ?_
      refine pb_iload_n C dX3_erase_64 rfl (lv_at hl 1 rfl) ?_
      refine pb_imul C dX3_erase_65 ?_
      refine pb_iload C dX3_erase_66 (lv_at hl 6 rfl) ?_
      refine pb_iadd C dX3_erase_68 ?_
      refine pb_dup2 C dX3_erase_69 rfl rfl ?_
      refine pb_iald C hA1.b (i := ((((24 * s) + k) : Nat) : Int)) (v := .int (iZ ((((S.2.1 0 (24 * s + k)) : Nat) : Int)))) (by omega) (congrArg (fun n : Nat => Value.int (iZ (n : Int))) (rowsF_at S s b k _)) dX3_erase_70 ?_
      refine pb_iload_n C dX3_erase_71 rfl (lv_at hl 2 rfl) ?_
      refine pb_iload C dX3_erase_72 (lv_at hl 3 rfl) ?_
      refine pb_go_x (bc' := 0) (bs' := 0) (pb_runS (rest := [.int (iZ ((((S.2.1 0 (24 * s + k)) : Nat) : Int))), .int (iZ (((((24 * s) + k) : Nat) : Int))), .ref (o + 1)]) C hG (met_X3_range l a c (by omega) (by omega)) (lw_S q1814 q1815 q60 q1816) hdX3_range rfl hl.1 rfl (Nat.le_of_ble_eq_true rfl) ⟨(Nat.le_of_ble_eq_true rfl), (Nat.le_of_ble_eq_true rfl)⟩ dX3_erase_74) (by omega) (by omega) ?_
      refine pb_ic C dX3_erase_77 ?_
      refine pb_inot C dX3_erase_78 (x := (((rngm a c) : Nat) : Int)) ?_
      refine pb_iandn C dX3_erase_79 (x := (S.2.1 0 (24 * s + k))) (y := (rngm a c)) ?_
      refine pb_iast C hA1 (i := ((((24 * s) + k) : Nat) : Int)) (by omega) (by omega) dX3_erase_80 fun H1_ hu_ hA1 => ?_
      rw [pb_upN, Int.toNat_natCast, rowsF_step S s b k (fun y => pb_dif (S.2.1 0 (24 * s + y)) (rngm a c)) hk.1 rfl] at hA1
      have hG := hG.kept (hu_.z (by omega))
      have hO := hO.kept (hu_.2 _ (by omega))
      have hA2 := hA2.kept (hu_.2 _ (by omega))
      have hA3 := hA3.kept (hu_.2 _ (by omega))
      have hA4 := hA4.kept (hu_.2 _ (by omega))
      have hA5 := hA5.kept (hu_.2 _ (by omega))
      have hA6 := hA6.kept (hu_.2 _ (by omega))
      have hA7 := hA7.kept (hu_.2 _ (by omega))
      have hA8 := hA8.kept (hu_.2 _ (by omega))
      have hA9 := hA9.kept (hu_.2 _ (by omega))
      have hA10 := hA10.kept (hu_.2 _ (by omega))
      have hA11 := hA11.kept (hu_.2 _ (by omega))
      have hA12 := hA12.kept (hu_.2 _ (by omega))
      have hF := hF.up hu_ (by omega)
      refine pb_iinc C dX3_erase_81 hl (j := 6) (x := (((k : Nat) : Int))) rfl (by decide) rfl fun ls hl => ?_
      have hl : lv_has ls 8 [(7, .int (iZ ((((k + 1) : Nat) : Int)))), (0, .ref (o)), (1, .int (iZ (((s : Nat) : Int)))), (2, .int (iZ (((a : Nat) : Int)))), (4, .int (iZ (((c : Nat) : Int)))), (5, .int (iZ (((d : Nat) : Int)))), (6, .int (iZ ((((cnt (mg (mI S 0 0) s)) : Nat) : Int))))] := hl
      refine pb_goto C dX3_erase_84 (tgt := 51) (by decide) ?_
      exact pb_V.mono (by omega) (by omega) (ih51 _ (by omega) (k + 1) H1_ rfl hG (by omega) ⟨hz, hO, hA1, hA2, hA3, hA4, hA5, hA6, hA7, hA8, hA9, hA10, hA11, hA12⟩ hF ls (lv_sub hl [1, 2, 3, 4, 5, 6, 0] rfl))
  refine pb_aload_n C dX3_erase_0 rfl (lv_at hl 0 rfl) ?_
  refine pb_iload_n C dX3_erase_1 rfl (lv_at hl 1 rfl) ?_
  refine pb_go_x (bc' := 0) (bs' := 0) (pb_runS (rest := [.ref (o)]) C hG (met_X3_isSheet l (((s : Nat) : Int)) (by omega)) (lw_S q1794 q1795 q60 q1796) hdX3_isSheet rfl hl.1 rfl (Nat.le_of_ble_eq_true rfl) ⟨(Nat.le_of_ble_eq_true rfl), (Nat.le_of_ble_eq_true rfl)⟩ dX3_erase_2) (by omega) (by omega) ?_
  refine pb_ifB_ne C dX3_erase_5 (tgt := 12) (by decide) (fun c5_ => ?_) (fun c5_ => ?_)
  · have c5_ := of_decide_eq_true c5_
    refine pb_iload_n C dX3_erase_12 rfl (lv_at hl 2 rfl) ?_
    refine pb_iload_n C dX3_erase_13 rfl (lv_at hl 3 rfl) ?_
    refine pb_iload C dX3_erase_14 (lv_at hl 4 rfl) ?_
    refine pb_iload C dX3_erase_16 (lv_at hl 5 rfl) ?_
    refine pb_go_x (bc' := 0) (bs' := 0) (pb_runS (rest := [.ref (o)]) C hG (met_X3_isBox l a b c d (by omega) (by omega) (by omega) (by omega)) (lw_S q1800 q1801 q60 q1802) hdX3_isBox rfl hl.1 rfl (Nat.le_of_ble_eq_true rfl) ⟨(Nat.le_of_ble_eq_true rfl), (Nat.le_of_ble_eq_true rfl)⟩ dX3_erase_18) (by omega) (by omega) ?_
    refine pb_ifB_ne C dX3_erase_21 (tgt := 28) (by decide) (fun c21_ => ?_) (fun c21_ => ?_)
    · have c21_ := of_decide_eq_true c21_
      refine pb_ic C dX3_erase_28 ?_
      refine pb_put C in_X3 tyX3 tyX3_ok nmX3 hO (ci := 2) rfl 0 (by decide) q1737 (fun _ h9 => h9) rfl (v := .int (iZ (0))) rfl rfl (Nat.le_of_ble_eq_true rfl) (by omega) dX3_erase_29 fun H2_ hu_ hO => ?_
      have hO : pb_O w H2_ (o) 2 [.int (iZ (0)), .int (iZ ((S.1 1))), .ref (o + 1), .ref (o + 2), .ref (o + 3), .ref (o + 4), .ref (o + 5), .ref (o + 6), .ref (o + 7), .ref (o + 8), .ref (o + 9), .ref (o + 10), .ref (o + 11), .ref (o + 12), .int (iZ ((S.1 2))), .int (iZ ((S.1 3)))] := hO
      have hG := hG.kept (hu_.z (by omega))
      have hA1 := hA1.kept (hu_.2 _ (by omega))
      have hA2 := hA2.kept (hu_.2 _ (by omega))
      have hA3 := hA3.kept (hu_.2 _ (by omega))
      have hA4 := hA4.kept (hu_.2 _ (by omega))
      have hA5 := hA5.kept (hu_.2 _ (by omega))
      have hA6 := hA6.kept (hu_.2 _ (by omega))
      have hA7 := hA7.kept (hu_.2 _ (by omega))
      have hA8 := hA8.kept (hu_.2 _ (by omega))
      have hA9 := hA9.kept (hu_.2 _ (by omega))
      have hA10 := hA10.kept (hu_.2 _ (by omega))
      have hA11 := hA11.kept (hu_.2 _ (by omega))
      have hA12 := hA12.kept (hu_.2 _ (by omega))
      have hF := hF.up hu_ (by omega)
      refine pb_aload_n C dX3_erase_32 rfl (lv_at hl 0 rfl) ?_
      refine pb_get C in_X3 hO.r (ci := 2) rfl 0 (by decide) q1737 (fun _ h9 => h9) (v := .int (iZ (0))) rfl dX3_erase_33 ?_
      refine pb_if_eq C dX3_erase_36 (x := 0) (tgt := 41) (by decide) (by omega) (fun c36_ => ?_) (fun c36_ => ?_)
      · refine pb_aload_n C dX3_erase_41 rfl (lv_at hl 0 rfl) ?_
        refine pb_iload_n C dX3_erase_42 rfl (lv_at hl 1 rfl) ?_
        refine pb_go_x (bc' := 0) (bs' := 0) (pb_runV (rest := []) C hG (met_X3_count l o ((mI S 0 0)) ⟨hz, hO, hA1, hA2, hA3, hA4, hA5, hA6, hA7, hA8, hA9, hA10, hA11, hA12⟩ s hs hb) hO.r (ci := 2) rfl (lw_V q1803 q1805 qs27 q60 q1806) ⟨rfl, hdX3_count⟩ rfl hl.1 rfl (Nat.le_of_ble_eq_true rfl) ⟨(Nat.le_of_ble_eq_true rfl), (Nat.le_of_ble_eq_true rfl)⟩ dX3_erase_43) (by omega) (by omega) ?_
        refine pb_istore C dX3_erase_46 hl (by decide) rfl fun ls hl => ?_
        have hl : lv_has ls 8 [(6, .int (iZ ((((cnt (mg ((mI S 0 0)) s)) : Nat) : Int)))), (0, .ref (o)), (1, .int (iZ (((s : Nat) : Int)))), (2, .int (iZ (((a : Nat) : Int)))), (3, .int (iZ (((b : Nat) : Int)))), (4, .int (iZ (((c : Nat) : Int)))), (5, .int (iZ (((d : Nat) : Int))))] := hl
        refine pb_iload_n C dX3_erase_48 rfl (lv_at hl 4 rfl) ?_
        refine pb_istore C dX3_erase_49 hl (by decide) rfl fun ls hl => ?_
        have hl : lv_has ls 8 [(7, .int (iZ (((b : Nat) : Int)))), (6, .int (iZ ((((cnt (mg ((mI S 0 0)) s)) : Nat) : Int)))), (0, .ref (o)), (1, .int (iZ (((s : Nat) : Int)))), (2, .int (iZ (((a : Nat) : Int)))), (3, .int (iZ (((b : Nat) : Int)))), (4, .int (iZ (((c : Nat) : Int)))), (5, .int (iZ (((d : Nat) : Int))))] := hl
        exact pb_V.mono (by omega) (by omega) (L51 _ b H2_ rfl hG (by omega) (by rw [rowsF_0]; exact ⟨hz, hO, hA1, hA2, hA3, hA4, hA5, hA6, hA7, hA8, hA9, hA10, hA11, hA12⟩) hF ls (lv_sub hl [2, 3, 4, 6, 7, 1, 0] rfl))
      · exact absurd c36_ (by decide)
    · have c21_ := of_decide_eq_false c21_
      omega
  · have c5_ := of_decide_eq_false c5_
    omega

set_option maxHeartbeats 1000000 in
theorem met_X3_erase_1 {w : pb_W} (l : Launch) {H0 : Heap} (o : Nat) (S : mS) (hM : MW w H0 o S) (s : Int) (hsr : -2147483648 ≤ s ∧ s ≤ 2147483647) (hs : ¬ (0 ≤ s ∧ s ≤ 7)) (a b c d : Int) (ha : -2147483648 ≤ a ∧ a ≤ 2147483647) (hb : -2147483648 ≤ b ∧ b ≤ 2147483647) (hc : -2147483648 ≤ c ∧ c ≤ 2147483647) (hd : -2147483648 ≤ d ∧ d ≤ 2147483647) : pb_M w l yX3_erase cX3_erase 8 (some .int) 5 (0) (0) [.ref (o), .int (iZ (s)), .int (iZ (a)), .int (iZ (b)), .int (iZ (c)), .int (iZ (d))] H0 (pb_qi (fun z H1 => z = 0 ∧ MW w H1 o (mI S 0 1) ∧ mF o H0 H1)) := by
  refine pb_of (by decide +kernel) (Nat.le_of_ble_eq_true rfl) ?_
  intro p_ e_ s_ m_ ar_ bl_ me_ co_ ls C hh hG hl
  have hl : lv_has ls 8 [(0, .ref (o)), (1, .int (iZ (s))), (2, .int (iZ (a))), (3, .int (iZ (b))), (4, .int (iZ (c))), (5, .int (iZ (d)))] := hl
  have hM0 := hM; obtain ⟨hz, hO, hA1, hA2, hA3, hA4, hA5, hA6, hA7, hA8, hA9, hA10, hA11, hA12⟩ := hM0
  have hF : mF o H0 H0 := mF.rf
  refine pb_aload_n C dX3_erase_0 rfl (lv_at hl 0 rfl) ?_
  refine pb_iload_n C dX3_erase_1 rfl (lv_at hl 1 rfl) ?_
  refine pb_go_x (bc' := 0) (bs' := 0) (pb_runS (rest := [.ref (o)]) C hG (met_X3_isSheet l s (by omega)) (lw_S q1794 q1795 q60 q1796) hdX3_isSheet rfl hl.1 rfl (Nat.le_of_ble_eq_true rfl) ⟨(Nat.le_of_ble_eq_true rfl), (Nat.le_of_ble_eq_true rfl)⟩ dX3_erase_2) (by omega) (by omega) ?_
  refine pb_ifB_ne C dX3_erase_5 (tgt := 12) (by decide) (fun c5_ => ?_) (fun c5_ => ?_)
  · have c5_ := of_decide_eq_true c5_
    omega
  · have c5_ := of_decide_eq_false c5_
    refine pb_ic C dX3_erase_8 ?_
    refine pb_goto C dX3_erase_9 (tgt := 29) (by decide) ?_
    refine pb_put C in_X3 tyX3 tyX3_ok nmX3 hO (ci := 2) rfl 0 (by decide) q1737 (fun _ h9 => h9) rfl (v := .int (iZ (1))) rfl rfl (Nat.le_of_ble_eq_true rfl) (by omega) dX3_erase_29 fun H1_ hu_ hO => ?_
    have hO : pb_O w H1_ (o) 2 [.int (iZ (1)), .int (iZ ((S.1 1))), .ref (o + 1), .ref (o + 2), .ref (o + 3), .ref (o + 4), .ref (o + 5), .ref (o + 6), .ref (o + 7), .ref (o + 8), .ref (o + 9), .ref (o + 10), .ref (o + 11), .ref (o + 12), .int (iZ ((S.1 2))), .int (iZ ((S.1 3)))] := hO
    have hG := hG.kept (hu_.z (by omega))
    have hA1 := hA1.kept (hu_.2 _ (by omega))
    have hA2 := hA2.kept (hu_.2 _ (by omega))
    have hA3 := hA3.kept (hu_.2 _ (by omega))
    have hA4 := hA4.kept (hu_.2 _ (by omega))
    have hA5 := hA5.kept (hu_.2 _ (by omega))
    have hA6 := hA6.kept (hu_.2 _ (by omega))
    have hA7 := hA7.kept (hu_.2 _ (by omega))
    have hA8 := hA8.kept (hu_.2 _ (by omega))
    have hA9 := hA9.kept (hu_.2 _ (by omega))
    have hA10 := hA10.kept (hu_.2 _ (by omega))
    have hA11 := hA11.kept (hu_.2 _ (by omega))
    have hA12 := hA12.kept (hu_.2 _ (by omega))
    have hF := hF.up hu_ (by omega)
    refine pb_aload_n C dX3_erase_32 rfl (lv_at hl 0 rfl) ?_
    refine pb_get C in_X3 hO.r (ci := 2) rfl 0 (by decide) q1737 (fun _ h9 => h9) (v := .int (iZ (1))) rfl dX3_erase_33 ?_
    refine pb_if_eq C dX3_erase_36 (x := 1) (tgt := 41) (by decide) (by omega) (fun c36_ => ?_) (fun c36_ => ?_)
    · exact absurd c36_ (by decide)
    · refine pb_ic C dX3_erase_39 ?_
      exact pb_iret C dX3_erase_40 (⟨_, rfl, rfl, ⟨hz, hO, hA1, hA2, hA3, hA4, hA5, hA6, hA7, hA8, hA9, hA10, hA11, hA12⟩, hF⟩)

set_option maxHeartbeats 1000000 in
theorem met_X3_erase_2 {w : pb_W} (l : Launch) {H0 : Heap} (o : Nat) (S : mS) (hM : MW w H0 o S) (s : Nat) (hs : s < 8) (a b c d : Int) (ha : -2147483648 ≤ a ∧ a ≤ 2147483647) (hb : -2147483648 ≤ b ∧ b ≤ 2147483647) (hc : -2147483648 ≤ c ∧ c ≤ 2147483647) (hd : -2147483648 ≤ d ∧ d ≤ 2147483647) (hn : ¬ (0 ≤ a ∧ 0 ≤ b ∧ c ≤ 24 ∧ d ≤ 24 ∧ a < c ∧ b < d)) : pb_M w l yX3_erase cX3_erase 8 (some .int) 5 (0) (0) [.ref (o), .int (iZ (((s : Nat) : Int))), .int (iZ (a)), .int (iZ (b)), .int (iZ (c)), .int (iZ (d))] H0 (pb_qi (fun z H1 => z = 0 ∧ MW w H1 o (mI S 0 2) ∧ mF o H0 H1)) := by
  refine pb_of (by decide +kernel) (Nat.le_of_ble_eq_true rfl) ?_
  intro p_ e_ s_ m_ ar_ bl_ me_ co_ ls C hh hG hl
  have hl : lv_has ls 8 [(0, .ref (o)), (1, .int (iZ (((s : Nat) : Int)))), (2, .int (iZ (a))), (3, .int (iZ (b))), (4, .int (iZ (c))), (5, .int (iZ (d)))] := hl
  have hM0 := hM; obtain ⟨hz, hO, hA1, hA2, hA3, hA4, hA5, hA6, hA7, hA8, hA9, hA10, hA11, hA12⟩ := hM0
  have hF : mF o H0 H0 := mF.rf
  refine pb_aload_n C dX3_erase_0 rfl (lv_at hl 0 rfl) ?_
  refine pb_iload_n C dX3_erase_1 rfl (lv_at hl 1 rfl) ?_
  refine pb_go_x (bc' := 0) (bs' := 0) (pb_runS (rest := [.ref (o)]) C hG (met_X3_isSheet l (((s : Nat) : Int)) (by omega)) (lw_S q1794 q1795 q60 q1796) hdX3_isSheet rfl hl.1 rfl (Nat.le_of_ble_eq_true rfl) ⟨(Nat.le_of_ble_eq_true rfl), (Nat.le_of_ble_eq_true rfl)⟩ dX3_erase_2) (by omega) (by omega) ?_
  refine pb_ifB_ne C dX3_erase_5 (tgt := 12) (by decide) (fun c5_ => ?_) (fun c5_ => ?_)
  · have c5_ := of_decide_eq_true c5_
    refine pb_iload_n C dX3_erase_12 rfl (lv_at hl 2 rfl) ?_
    refine pb_iload_n C dX3_erase_13 rfl (lv_at hl 3 rfl) ?_
    refine pb_iload C dX3_erase_14 (lv_at hl 4 rfl) ?_
    refine pb_iload C dX3_erase_16 (lv_at hl 5 rfl) ?_
    refine pb_go_x (bc' := 0) (bs' := 0) (pb_runS (rest := [.ref (o)]) C hG (met_X3_isBox l a b c d ha hb hc hd) (lw_S q1800 q1801 q60 q1802) hdX3_isBox rfl hl.1 rfl (Nat.le_of_ble_eq_true rfl) ⟨(Nat.le_of_ble_eq_true rfl), (Nat.le_of_ble_eq_true rfl)⟩ dX3_erase_18) (by omega) (by omega) ?_
    refine pb_ifB_ne C dX3_erase_21 (tgt := 28) (by decide) (fun c21_ => ?_) (fun c21_ => ?_)
    · have c21_ := of_decide_eq_true c21_
      omega
    · have c21_ := of_decide_eq_false c21_
      refine pb_ic C dX3_erase_24 ?_
      refine pb_goto C dX3_erase_25 (tgt := 29) (by decide) ?_
      refine pb_put C in_X3 tyX3 tyX3_ok nmX3 hO (ci := 2) rfl 0 (by decide) q1737 (fun _ h9 => h9) rfl (v := .int (iZ (2))) rfl rfl (Nat.le_of_ble_eq_true rfl) (by omega) dX3_erase_29 fun H1_ hu_ hO => ?_
      have hO : pb_O w H1_ (o) 2 [.int (iZ (2)), .int (iZ ((S.1 1))), .ref (o + 1), .ref (o + 2), .ref (o + 3), .ref (o + 4), .ref (o + 5), .ref (o + 6), .ref (o + 7), .ref (o + 8), .ref (o + 9), .ref (o + 10), .ref (o + 11), .ref (o + 12), .int (iZ ((S.1 2))), .int (iZ ((S.1 3)))] := hO
      have hG := hG.kept (hu_.z (by omega))
      have hA1 := hA1.kept (hu_.2 _ (by omega))
      have hA2 := hA2.kept (hu_.2 _ (by omega))
      have hA3 := hA3.kept (hu_.2 _ (by omega))
      have hA4 := hA4.kept (hu_.2 _ (by omega))
      have hA5 := hA5.kept (hu_.2 _ (by omega))
      have hA6 := hA6.kept (hu_.2 _ (by omega))
      have hA7 := hA7.kept (hu_.2 _ (by omega))
      have hA8 := hA8.kept (hu_.2 _ (by omega))
      have hA9 := hA9.kept (hu_.2 _ (by omega))
      have hA10 := hA10.kept (hu_.2 _ (by omega))
      have hA11 := hA11.kept (hu_.2 _ (by omega))
      have hA12 := hA12.kept (hu_.2 _ (by omega))
      have hF := hF.up hu_ (by omega)
      refine pb_aload_n C dX3_erase_32 rfl (lv_at hl 0 rfl) ?_
      refine pb_get C in_X3 hO.r (ci := 2) rfl 0 (by decide) q1737 (fun _ h9 => h9) (v := .int (iZ (2))) rfl dX3_erase_33 ?_
      refine pb_if_eq C dX3_erase_36 (x := 2) (tgt := 41) (by decide) (by omega) (fun c36_ => ?_) (fun c36_ => ?_)
      · exact absurd c36_ (by decide)
      · refine pb_ic C dX3_erase_39 ?_
        exact pb_iret C dX3_erase_40 (⟨_, rfl, rfl, ⟨hz, hO, hA1, hA2, hA3, hA4, hA5, hA6, hA7, hA8, hA9, hA10, hA11, hA12⟩, hF⟩)
  · have c5_ := of_decide_eq_false c5_
    omega

set_option maxHeartbeats 1000000 in
theorem met_X3_clear {w : pb_W} (l : Launch) {H0 : Heap} (o : Nat) (S : mS) (hM : MW w H0 o S) (s : Nat) (hs : s < 8) (hb : mok S) : pb_M w l yX3_clear cX3_clear 4 (some .int) 5 (0) (0) [.ref (o), .int (iZ (((s : Nat) : Int)))] H0 (pb_qi (fun z H1 => z = ((cnt (mg S s) : Nat) : Int) ∧ MW w H1 o (mB (mI S 0 0) 0 (rowsF S s 0 24 (fun _ => 0))) ∧ mF o H0 H1)) := by
  refine pb_of (by decide +kernel) (Nat.le_of_ble_eq_true rfl) ?_
  intro p_ e_ s_ m_ ar_ bl_ me_ co_ ls C hh hG hl
  have hl : lv_has ls 4 [(0, .ref (o)), (1, .int (iZ (((s : Nat) : Int))))] := hl
  have hM0 := hM; obtain ⟨hz, hO, hA1, hA2, hA3, hA4, hA5, hA6, hA7, hA8, hA9, hA10, hA11, hA12⟩ := hM0
  have hF : mF o H0 H0 := mF.rf
  have L33 : ∀ (n_ : Nat) (k : Nat) (H : Heap), 24 - k = n_ → (pb_G w s_ H) → (k ≤ 24) → (MW w H o (mB (mI S 0 0) 0 (rowsF S s 0 k (fun _ => 0)))) → (mF o H0 H) → ∀ (ls : Array Slot), lv_has ls 4 [(0, .ref (o)), (1, .int (iZ (((s : Nat) : Int)))), (2, .int (iZ ((((cnt (mg (mI S 0 0) s)) : Nat) : Int)))), (3, .int (iZ (((k : Nat) : Int))))] → pb_V w.2.2.2 p_ l e_ (pb_rm 5 (0) (0)) s_ m_ ar_ bl_ me_ co_ H (0) (0) (pb_E w bl_ ar_ s_ (0) (0) (pb_qi (fun z H1 => z = ((cnt (mg S s) : Nat) : Int) ∧ MW w H1 o (mB (mI S 0 0) 0 (rowsF S s 0 24 (fun _ => 0))) ∧ mF o H0 H1))) (F0 m_ 33 ls []) := by
    intro n_
    induction n_ using Nat.strongRecOn with
    | _ n_ ih33 =>
    intro k H hm_ hG hk hM hF ls hl
    have hM0 := hM; obtain ⟨hz, hO, hA1, hA2, hA3, hA4, hA5, hA6, hA7, hA8, hA9, hA10, hA11, hA12⟩ := hM0
    have hO : pb_O w H o 2 [.int (iZ ((0))), .int (iZ ((S.1 1))), .ref (o + 1), .ref (o + 2), .ref (o + 3), .ref (o + 4), .ref (o + 5), .ref (o + 6), .ref (o + 7), .ref (o + 8), .ref (o + 9), .ref (o + 10), .ref (o + 11), .ref (o + 12), .int (iZ ((S.1 2))), .int (iZ ((S.1 3)))] := hO
    have hA1 : pb_A w H (o + 1) 0 192 (pb_nf (rowsF S s 0 k (fun _ => 0))) := hA1
    have hA2 : pb_A w H (o + 2) 0 24 (pb_nf (S.2.1 1)) := hA2
    have hA3 : pb_A w H (o + 3) 0 26 (pb_nf (S.2.1 2)) := hA3
    have hA4 : pb_A w H (o + 4) 0 26 (pb_nf (S.2.1 3)) := hA4
    have hA5 : pb_A w H (o + 5) 0 40 (pb_zf (S.2.2 0)) := hA5
    have hA6 : pb_A w H (o + 6) 0 40 (pb_zf (S.2.2 1)) := hA6
    have hA7 : pb_A w H (o + 7) 0 576 (pb_zf (S.2.2 2)) := hA7
    have hA8 : pb_A w H (o + 8) 0 1300 (pb_zf (S.2.2 3)) := hA8
    have hA9 : pb_A w H (o + 9) 0 1300 (pb_zf (S.2.2 4)) := hA9
    have hA10 : pb_A w H (o + 10) 0 400 (pb_zf (S.2.2 5)) := hA10
    have hA11 : pb_A w H (o + 11) 0 400 (pb_zf (S.2.2 6)) := hA11
    have hA12 : pb_A w H (o + 12) 0 625 (pb_nf (S.2.1 4)) := hA12
    refine pb_iload_n C dX3_clear_33 rfl (lv_at hl 3 rfl) ?_
    refine pb_bip C dX3_clear_34 (by decide) ?_
    refine pb_icmp_ge C dX3_clear_36 (x := ((k : Nat) : Int)) (y := 24) (tgt := 57) (by decide) (by omega) (by omega) (fun c36_ => ?_) (fun c36_ => ?_)
    · obtain rfl : k = 24 := by omega
      refine pb_iload_n C dX3_clear_57 rfl (lv_at hl 2 rfl) ?_
      exact pb_iret C dX3_clear_58 (⟨_, rfl, rfl, ⟨hz, hO, hA1, hA2, hA3, hA4, hA5, hA6, hA7, hA8, hA9, hA10, hA11, hA12⟩, hF⟩)
    · refine pb_aload_n C dX3_clear_39 rfl (lv_at hl 0 rfl) ?_
      refine pb_get C in_X3 hO.r (ci := 2) rfl 2 (by decide) q1739 (fun _ h9 => h9) (v := .ref (o + 1)) rfl dX3_clear_40 ?_
      refine pb_bip C dX3_clear_43 (by decide) ?_
      refine pb_iload_n C dX3_clear_45 rfl (lv_at hl 1 rfl) ?_
      refine pb_imul C dX3_clear_46 ?_
      refine pb_iload_n C dX3_clear_47 rfl (lv_at hl 3 rfl) ?_
      refine pb_iadd C dX3_clear_48 ?_
      refine pb_ic C dX3_clear_49 ?_
      refine pb_iast C hA1 (i := ((((24 * s) + k) : Nat) : Int)) (by omega) (by omega) dX3_clear_50 fun H1_ hu_ hA1 => ?_
      rw [show (Value.int (iZ 0)) = Value.int (iZ ((0 : Nat) : Int)) from rfl, pb_upN, Int.toNat_natCast, rowsF_step S s 0 k (fun _ => 0) (Nat.zero_le _) rfl] at hA1
      have hG := hG.kept (hu_.z (by omega))
      have hO := hO.kept (hu_.2 _ (by omega))
      have hA2 := hA2.kept (hu_.2 _ (by omega))
      have hA3 := hA3.kept (hu_.2 _ (by omega))
      have hA4 := hA4.kept (hu_.2 _ (by omega))
      have hA5 := hA5.kept (hu_.2 _ (by omega))
      have hA6 := hA6.kept (hu_.2 _ (by omega))
      have hA7 := hA7.kept (hu_.2 _ (by omega))
      have hA8 := hA8.kept (hu_.2 _ (by omega))
      have hA9 := hA9.kept (hu_.2 _ (by omega))
      have hA10 := hA10.kept (hu_.2 _ (by omega))
      have hA11 := hA11.kept (hu_.2 _ (by omega))
      have hA12 := hA12.kept (hu_.2 _ (by omega))
      have hF := hF.up hu_ (by omega)
      refine pb_iinc C dX3_clear_51 hl (j := 3) (x := (((k : Nat) : Int))) rfl (by decide) rfl fun ls hl => ?_
      have hl : lv_has ls 4 [(3, .int (iZ ((((k + 1) : Nat) : Int)))), (0, .ref (o)), (1, .int (iZ (((s : Nat) : Int)))), (2, .int (iZ ((((cnt (mg (mI S 0 0) s)) : Nat) : Int))))] := hl
      refine pb_goto C dX3_clear_54 (tgt := 33) (by decide) ?_
      exact pb_V.mono (by omega) (by omega) (ih33 _ (by omega) (k + 1) H1_ rfl hG (by omega) ⟨hz, hO, hA1, hA2, hA3, hA4, hA5, hA6, hA7, hA8, hA9, hA10, hA11, hA12⟩ hF ls (lv_sub hl [1, 2, 3, 0] rfl))
  refine pb_aload_n C dX3_clear_0 rfl (lv_at hl 0 rfl) ?_
  refine pb_iload_n C dX3_clear_1 rfl (lv_at hl 1 rfl) ?_
  refine pb_go_x (bc' := 0) (bs' := 0) (pb_runS (rest := [.ref (o)]) C hG (met_X3_isSheet l (((s : Nat) : Int)) (by omega)) (lw_S q1794 q1795 q60 q1796) hdX3_isSheet rfl hl.1 rfl (Nat.le_of_ble_eq_true rfl) ⟨(Nat.le_of_ble_eq_true rfl), (Nat.le_of_ble_eq_true rfl)⟩ dX3_clear_2) (by omega) (by omega) ?_
  refine pb_ifB_eq C dX3_clear_5 (tgt := 12) (by decide) (fun c5_ => ?_) (fun c5_ => ?_)
  · have c5_ := of_decide_eq_false c5_
    omega
  · have c5_ := of_decide_eq_true c5_
    refine pb_ic C dX3_clear_8 ?_
    refine pb_goto C dX3_clear_9 (tgt := 13) (by decide) ?_
    refine pb_put C in_X3 tyX3 tyX3_ok nmX3 hO (ci := 2) rfl 0 (by decide) q1737 (fun _ h9 => h9) rfl (v := .int (iZ (0))) rfl rfl (Nat.le_of_ble_eq_true rfl) (by omega) dX3_clear_13 fun H2_ hu_ hO => ?_
    have hO : pb_O w H2_ (o) 2 [.int (iZ (0)), .int (iZ ((S.1 1))), .ref (o + 1), .ref (o + 2), .ref (o + 3), .ref (o + 4), .ref (o + 5), .ref (o + 6), .ref (o + 7), .ref (o + 8), .ref (o + 9), .ref (o + 10), .ref (o + 11), .ref (o + 12), .int (iZ ((S.1 2))), .int (iZ ((S.1 3)))] := hO
    have hG := hG.kept (hu_.z (by omega))
    have hA1 := hA1.kept (hu_.2 _ (by omega))
    have hA2 := hA2.kept (hu_.2 _ (by omega))
    have hA3 := hA3.kept (hu_.2 _ (by omega))
    have hA4 := hA4.kept (hu_.2 _ (by omega))
    have hA5 := hA5.kept (hu_.2 _ (by omega))
    have hA6 := hA6.kept (hu_.2 _ (by omega))
    have hA7 := hA7.kept (hu_.2 _ (by omega))
    have hA8 := hA8.kept (hu_.2 _ (by omega))
    have hA9 := hA9.kept (hu_.2 _ (by omega))
    have hA10 := hA10.kept (hu_.2 _ (by omega))
    have hA11 := hA11.kept (hu_.2 _ (by omega))
    have hA12 := hA12.kept (hu_.2 _ (by omega))
    have hF := hF.up hu_ (by omega)
    refine pb_aload_n C dX3_clear_16 rfl (lv_at hl 0 rfl) ?_
    refine pb_get C in_X3 hO.r (ci := 2) rfl 0 (by decide) q1737 (fun _ h9 => h9) (v := .int (iZ (0))) rfl dX3_clear_17 ?_
    refine pb_if_eq C dX3_clear_20 (x := 0) (tgt := 25) (by decide) (by omega) (fun c20_ => ?_) (fun c20_ => ?_)
    · refine pb_aload_n C dX3_clear_25 rfl (lv_at hl 0 rfl) ?_
      refine pb_iload_n C dX3_clear_26 rfl (lv_at hl 1 rfl) ?_
      refine pb_go_x (bc' := 0) (bs' := 0) (pb_runV (rest := []) C hG (met_X3_count l o ((mI S 0 0)) ⟨hz, hO, hA1, hA2, hA3, hA4, hA5, hA6, hA7, hA8, hA9, hA10, hA11, hA12⟩ s hs hb) hO.r (ci := 2) rfl (lw_V q1803 q1805 qs27 q60 q1806) ⟨rfl, hdX3_count⟩ rfl hl.1 rfl (Nat.le_of_ble_eq_true rfl) ⟨(Nat.le_of_ble_eq_true rfl), (Nat.le_of_ble_eq_true rfl)⟩ dX3_clear_27) (by omega) (by omega) ?_
      refine pb_istore_n C dX3_clear_30 rfl hl (by decide) rfl fun ls hl => ?_
      have hl : lv_has ls 4 [(2, .int (iZ ((((cnt (mg ((mI S 0 0)) s)) : Nat) : Int)))), (0, .ref (o)), (1, .int (iZ (((s : Nat) : Int))))] := hl
      refine pb_ic C dX3_clear_31 ?_
      refine pb_istore_n C dX3_clear_32 rfl hl (by decide) rfl fun ls hl => ?_
      have hl : lv_has ls 4 [(3, .int (iZ (0))), (2, .int (iZ ((((cnt (mg ((mI S 0 0)) s)) : Nat) : Int)))), (0, .ref (o)), (1, .int (iZ (((s : Nat) : Int))))] := hl
      exact pb_V.mono (by omega) (by omega) (L33 _ 0 H2_ rfl hG (by omega) (by rw [rowsF_0]; exact ⟨hz, hO, hA1, hA2, hA3, hA4, hA5, hA6, hA7, hA8, hA9, hA10, hA11, hA12⟩) hF ls (lv_sub hl [2, 3, 1, 0] rfl))
    · exact absurd c20_ (by decide)

set_option maxHeartbeats 1000000 in
theorem met_X3_clear_1 {w : pb_W} (l : Launch) {H0 : Heap} (o : Nat) (S : mS) (hM : MW w H0 o S) (s : Int) (hsr : -2147483648 ≤ s ∧ s ≤ 2147483647) (hs : ¬ (0 ≤ s ∧ s ≤ 7)) : pb_M w l yX3_clear cX3_clear 4 (some .int) 5 (0) (0) [.ref (o), .int (iZ (s))] H0 (pb_qi (fun z H1 => z = 0 ∧ MW w H1 o (mI S 0 1) ∧ mF o H0 H1)) := by
  refine pb_of (by decide +kernel) (Nat.le_of_ble_eq_true rfl) ?_
  intro p_ e_ s_ m_ ar_ bl_ me_ co_ ls C hh hG hl
  have hl : lv_has ls 4 [(0, .ref (o)), (1, .int (iZ (s)))] := hl
  have hM0 := hM; obtain ⟨hz, hO, hA1, hA2, hA3, hA4, hA5, hA6, hA7, hA8, hA9, hA10, hA11, hA12⟩ := hM0
  have hF : mF o H0 H0 := mF.rf
  refine pb_aload_n C dX3_clear_0 rfl (lv_at hl 0 rfl) ?_
  refine pb_iload_n C dX3_clear_1 rfl (lv_at hl 1 rfl) ?_
  refine pb_go_x (bc' := 0) (bs' := 0) (pb_runS (rest := [.ref (o)]) C hG (met_X3_isSheet l s (by omega)) (lw_S q1794 q1795 q60 q1796) hdX3_isSheet rfl hl.1 rfl (Nat.le_of_ble_eq_true rfl) ⟨(Nat.le_of_ble_eq_true rfl), (Nat.le_of_ble_eq_true rfl)⟩ dX3_clear_2) (by omega) (by omega) ?_
  refine pb_ifB_eq C dX3_clear_5 (tgt := 12) (by decide) (fun c5_ => ?_) (fun c5_ => ?_)
  · have c5_ := of_decide_eq_false c5_
    refine pb_ic C dX3_clear_12 ?_
    refine pb_put C in_X3 tyX3 tyX3_ok nmX3 hO (ci := 2) rfl 0 (by decide) q1737 (fun _ h9 => h9) rfl (v := .int (iZ (1))) rfl rfl (Nat.le_of_ble_eq_true rfl) (by omega) dX3_clear_13 fun H1_ hu_ hO => ?_
    have hO : pb_O w H1_ (o) 2 [.int (iZ (1)), .int (iZ ((S.1 1))), .ref (o + 1), .ref (o + 2), .ref (o + 3), .ref (o + 4), .ref (o + 5), .ref (o + 6), .ref (o + 7), .ref (o + 8), .ref (o + 9), .ref (o + 10), .ref (o + 11), .ref (o + 12), .int (iZ ((S.1 2))), .int (iZ ((S.1 3)))] := hO
    have hG := hG.kept (hu_.z (by omega))
    have hA1 := hA1.kept (hu_.2 _ (by omega))
    have hA2 := hA2.kept (hu_.2 _ (by omega))
    have hA3 := hA3.kept (hu_.2 _ (by omega))
    have hA4 := hA4.kept (hu_.2 _ (by omega))
    have hA5 := hA5.kept (hu_.2 _ (by omega))
    have hA6 := hA6.kept (hu_.2 _ (by omega))
    have hA7 := hA7.kept (hu_.2 _ (by omega))
    have hA8 := hA8.kept (hu_.2 _ (by omega))
    have hA9 := hA9.kept (hu_.2 _ (by omega))
    have hA10 := hA10.kept (hu_.2 _ (by omega))
    have hA11 := hA11.kept (hu_.2 _ (by omega))
    have hA12 := hA12.kept (hu_.2 _ (by omega))
    have hF := hF.up hu_ (by omega)
    refine pb_aload_n C dX3_clear_16 rfl (lv_at hl 0 rfl) ?_
    refine pb_get C in_X3 hO.r (ci := 2) rfl 0 (by decide) q1737 (fun _ h9 => h9) (v := .int (iZ (1))) rfl dX3_clear_17 ?_
    refine pb_if_eq C dX3_clear_20 (x := 1) (tgt := 25) (by decide) (by omega) (fun c20_ => ?_) (fun c20_ => ?_)
    · exact absurd c20_ (by decide)
    · refine pb_ic C dX3_clear_23 ?_
      exact pb_iret C dX3_clear_24 (⟨_, rfl, rfl, ⟨hz, hO, hA1, hA2, hA3, hA4, hA5, hA6, hA7, hA8, hA9, hA10, hA11, hA12⟩, hF⟩)
  · have c5_ := of_decide_eq_true c5_
    omega

set_option maxHeartbeats 1000000 in
theorem met_X3_moveTo {w : pb_W} (l : Launch) {H0 : Heap} (o : Nat) (S : mS) (hM : MW w H0 o S) (x y : Int) (hx : -2147483648 ≤ x ∧ x ≤ 2147483647) (hy : -2147483648 ≤ y ∧ y ≤ 2147483647) (hp : (0 ≤ x ∧ x ≤ 24) ∧ 0 ≤ y ∧ y ≤ 24) : pb_M w l yX3_moveTo cX3_moveTo 3 (some .int) 2 (0) (0) [.ref (o), .int (iZ (x)), .int (iZ (y))] H0 (pb_qi (fun z H1 => z = 1 ∧ MW w H1 o (mI (mC (mC (mI S 0 0) 0 (va_up (S.2.2 0) 0 x)) 1 (va_up (S.2.2 1) 0 y)) 1 1) ∧ mF o H0 H1)) := by
  refine pb_of (by decide +kernel) (Nat.le_of_ble_eq_true rfl) ?_
  intro p_ e_ s_ m_ ar_ bl_ me_ co_ ls C hh hG hl
  have hl : lv_has ls 3 [(0, .ref (o)), (1, .int (iZ (x))), (2, .int (iZ (y)))] := hl
  have hM0 := hM; obtain ⟨hz, hO, hA1, hA2, hA3, hA4, hA5, hA6, hA7, hA8, hA9, hA10, hA11, hA12⟩ := hM0
  have hF : mF o H0 H0 := mF.rf
  refine pb_aload_n C dX3_moveTo_0 rfl (lv_at hl 0 rfl) ?_
  refine pb_iload_n C dX3_moveTo_1 rfl (lv_at hl 1 rfl) ?_
  refine pb_iload_n C dX3_moveTo_2 rfl (lv_at hl 2 rfl) ?_
  refine pb_go_x (bc' := 0) (bs' := 0) (pb_runS (rest := [.ref (o)]) C hG (met_X3_isPoint l x y (by omega) (by omega)) (lw_S q1829 q1830 q60 q1831) hdX3_isPoint rfl hl.1 rfl (Nat.le_of_ble_eq_true rfl) ⟨(Nat.le_of_ble_eq_true rfl), (Nat.le_of_ble_eq_true rfl)⟩ dX3_moveTo_3) (by omega) (by omega) ?_
  refine pb_ifB_eq C dX3_moveTo_6 (tgt := 13) (by decide) (fun c6_ => ?_) (fun c6_ => ?_)
  · have c6_ := of_decide_eq_false c6_
    omega
  · have c6_ := of_decide_eq_true c6_
    refine pb_ic C dX3_moveTo_9 ?_
    refine pb_goto C dX3_moveTo_10 (tgt := 14) (by decide) ?_
    refine pb_put C in_X3 tyX3 tyX3_ok nmX3 hO (ci := 2) rfl 0 (by decide) q1737 (fun _ h9 => h9) rfl (v := .int (iZ (0))) rfl rfl (Nat.le_of_ble_eq_true rfl) (by omega) dX3_moveTo_14 fun H1_ hu_ hO => ?_
    have hO : pb_O w H1_ (o) 2 [.int (iZ (0)), .int (iZ ((S.1 1))), .ref (o + 1), .ref (o + 2), .ref (o + 3), .ref (o + 4), .ref (o + 5), .ref (o + 6), .ref (o + 7), .ref (o + 8), .ref (o + 9), .ref (o + 10), .ref (o + 11), .ref (o + 12), .int (iZ ((S.1 2))), .int (iZ ((S.1 3)))] := hO
    have hG := hG.kept (hu_.z (by omega))
    have hA1 := hA1.kept (hu_.2 _ (by omega))
    have hA2 := hA2.kept (hu_.2 _ (by omega))
    have hA3 := hA3.kept (hu_.2 _ (by omega))
    have hA4 := hA4.kept (hu_.2 _ (by omega))
    have hA5 := hA5.kept (hu_.2 _ (by omega))
    have hA6 := hA6.kept (hu_.2 _ (by omega))
    have hA7 := hA7.kept (hu_.2 _ (by omega))
    have hA8 := hA8.kept (hu_.2 _ (by omega))
    have hA9 := hA9.kept (hu_.2 _ (by omega))
    have hA10 := hA10.kept (hu_.2 _ (by omega))
    have hA11 := hA11.kept (hu_.2 _ (by omega))
    have hA12 := hA12.kept (hu_.2 _ (by omega))
    have hF := hF.up hu_ (by omega)
    refine pb_aload_n C dX3_moveTo_17 rfl (lv_at hl 0 rfl) ?_
    refine pb_get C in_X3 hO.r (ci := 2) rfl 0 (by decide) q1737 (fun _ h9 => h9) (v := .int (iZ (0))) rfl dX3_moveTo_18 ?_
    refine pb_if_eq C dX3_moveTo_21 (x := 0) (tgt := 26) (by decide) (by omega) (fun c21_ => ?_) (fun c21_ => ?_)
    · refine pb_aload_n C dX3_moveTo_26 rfl (lv_at hl 0 rfl) ?_
      refine pb_get C in_X3 hO.r (ci := 2) rfl 6 (by decide) q1743 (fun _ h9 => h9) (v := .ref (o + 5)) rfl dX3_moveTo_27 ?_
      refine pb_ic C dX3_moveTo_30 ?_
      refine pb_iload_n C dX3_moveTo_31 rfl (lv_at hl 1 rfl) ?_
      refine pb_iast C hA5 (i := 0) (by omega) (by omega) dX3_moveTo_32 fun H2_ hu_ hA5 => ?_
      rw [pb_upZ, show (0 : Int).toNat = 0 from rfl] at hA5
      have hG := hG.kept (hu_.z (by omega))
      have hO := hO.kept (hu_.2 _ (by omega))
      have hA1 := hA1.kept (hu_.2 _ (by omega))
      have hA2 := hA2.kept (hu_.2 _ (by omega))
      have hA3 := hA3.kept (hu_.2 _ (by omega))
      have hA4 := hA4.kept (hu_.2 _ (by omega))
      have hA6 := hA6.kept (hu_.2 _ (by omega))
      have hA7 := hA7.kept (hu_.2 _ (by omega))
      have hA8 := hA8.kept (hu_.2 _ (by omega))
      have hA9 := hA9.kept (hu_.2 _ (by omega))
      have hA10 := hA10.kept (hu_.2 _ (by omega))
      have hA11 := hA11.kept (hu_.2 _ (by omega))
      have hA12 := hA12.kept (hu_.2 _ (by omega))
      have hF := hF.up hu_ (by omega)
      refine pb_aload_n C dX3_moveTo_33 rfl (lv_at hl 0 rfl) ?_
      refine pb_get C in_X3 hO.r (ci := 2) rfl 7 (by decide) q1744 (fun _ h9 => h9) (v := .ref (o + 6)) rfl dX3_moveTo_34 ?_
      refine pb_ic C dX3_moveTo_37 ?_
      refine pb_iload_n C dX3_moveTo_38 rfl (lv_at hl 2 rfl) ?_
      refine pb_iast C hA6 (i := 0) (by omega) (by omega) dX3_moveTo_39 fun H3_ hu_ hA6 => ?_
      rw [pb_upZ, show (0 : Int).toNat = 0 from rfl] at hA6
      have hG := hG.kept (hu_.z (by omega))
      have hO := hO.kept (hu_.2 _ (by omega))
      have hA1 := hA1.kept (hu_.2 _ (by omega))
      have hA2 := hA2.kept (hu_.2 _ (by omega))
      have hA3 := hA3.kept (hu_.2 _ (by omega))
      have hA4 := hA4.kept (hu_.2 _ (by omega))
      have hA5 := hA5.kept (hu_.2 _ (by omega))
      have hA7 := hA7.kept (hu_.2 _ (by omega))
      have hA8 := hA8.kept (hu_.2 _ (by omega))
      have hA9 := hA9.kept (hu_.2 _ (by omega))
      have hA10 := hA10.kept (hu_.2 _ (by omega))
      have hA11 := hA11.kept (hu_.2 _ (by omega))
      have hA12 := hA12.kept (hu_.2 _ (by omega))
      have hF := hF.up hu_ (by omega)
      refine pb_aload_n C dX3_moveTo_40 rfl (lv_at hl 0 rfl) ?_
      refine pb_ic C dX3_moveTo_41 ?_
      refine pb_put C in_X3 tyX3 tyX3_ok nmX3 hO (ci := 2) rfl 1 (by decide) q1738 (fun _ h9 => h9) rfl (v := .int (iZ (1))) rfl rfl (Nat.le_of_ble_eq_true rfl) (by omega) dX3_moveTo_42 fun H4_ hu_ hO => ?_
      have hO : pb_O w H4_ (o) 2 [.int (iZ (0)), .int (iZ (1)), .ref (o + 1), .ref (o + 2), .ref (o + 3), .ref (o + 4), .ref (o + 5), .ref (o + 6), .ref (o + 7), .ref (o + 8), .ref (o + 9), .ref (o + 10), .ref (o + 11), .ref (o + 12), .int (iZ ((S.1 2))), .int (iZ ((S.1 3)))] := hO
      have hG := hG.kept (hu_.z (by omega))
      have hA1 := hA1.kept (hu_.2 _ (by omega))
      have hA2 := hA2.kept (hu_.2 _ (by omega))
      have hA3 := hA3.kept (hu_.2 _ (by omega))
      have hA4 := hA4.kept (hu_.2 _ (by omega))
      have hA5 := hA5.kept (hu_.2 _ (by omega))
      have hA6 := hA6.kept (hu_.2 _ (by omega))
      have hA7 := hA7.kept (hu_.2 _ (by omega))
      have hA8 := hA8.kept (hu_.2 _ (by omega))
      have hA9 := hA9.kept (hu_.2 _ (by omega))
      have hA10 := hA10.kept (hu_.2 _ (by omega))
      have hA11 := hA11.kept (hu_.2 _ (by omega))
      have hA12 := hA12.kept (hu_.2 _ (by omega))
      have hF := hF.up hu_ (by omega)
      refine pb_ic C dX3_moveTo_45 ?_
      exact pb_iret C dX3_moveTo_46 (⟨_, rfl, rfl, ⟨hz, hO, hA1, hA2, hA3, hA4, hA5, hA6, hA7, hA8, hA9, hA10, hA11, hA12⟩, hF⟩)
    · exact absurd c21_ (by decide)

set_option maxHeartbeats 1000000 in
theorem met_X3_moveTo_1 {w : pb_W} (l : Launch) {H0 : Heap} (o : Nat) (S : mS) (hM : MW w H0 o S) (x y : Int) (hx : -2147483648 ≤ x ∧ x ≤ 2147483647) (hy : -2147483648 ≤ y ∧ y ≤ 2147483647) (hp : ¬ ((0 ≤ x ∧ x ≤ 24) ∧ 0 ≤ y ∧ y ≤ 24)) : pb_M w l yX3_moveTo cX3_moveTo 3 (some .int) 2 (0) (0) [.ref (o), .int (iZ (x)), .int (iZ (y))] H0 (pb_qi (fun z H1 => z = 0 ∧ MW w H1 o (mI S 0 1) ∧ mF o H0 H1)) := by
  refine pb_of (by decide +kernel) (Nat.le_of_ble_eq_true rfl) ?_
  intro p_ e_ s_ m_ ar_ bl_ me_ co_ ls C hh hG hl
  have hl : lv_has ls 3 [(0, .ref (o)), (1, .int (iZ (x))), (2, .int (iZ (y)))] := hl
  have hM0 := hM; obtain ⟨hz, hO, hA1, hA2, hA3, hA4, hA5, hA6, hA7, hA8, hA9, hA10, hA11, hA12⟩ := hM0
  have hF : mF o H0 H0 := mF.rf
  refine pb_aload_n C dX3_moveTo_0 rfl (lv_at hl 0 rfl) ?_
  refine pb_iload_n C dX3_moveTo_1 rfl (lv_at hl 1 rfl) ?_
  refine pb_iload_n C dX3_moveTo_2 rfl (lv_at hl 2 rfl) ?_
  refine pb_go_x (bc' := 0) (bs' := 0) (pb_runS (rest := [.ref (o)]) C hG (met_X3_isPoint l x y (by omega) (by omega)) (lw_S q1829 q1830 q60 q1831) hdX3_isPoint rfl hl.1 rfl (Nat.le_of_ble_eq_true rfl) ⟨(Nat.le_of_ble_eq_true rfl), (Nat.le_of_ble_eq_true rfl)⟩ dX3_moveTo_3) (by omega) (by omega) ?_
  refine pb_ifB_eq C dX3_moveTo_6 (tgt := 13) (by decide) (fun c6_ => ?_) (fun c6_ => ?_)
  · have c6_ := of_decide_eq_false c6_
    refine pb_ic C dX3_moveTo_13 ?_
    refine pb_put C in_X3 tyX3 tyX3_ok nmX3 hO (ci := 2) rfl 0 (by decide) q1737 (fun _ h9 => h9) rfl (v := .int (iZ (1))) rfl rfl (Nat.le_of_ble_eq_true rfl) (by omega) dX3_moveTo_14 fun H1_ hu_ hO => ?_
    have hO : pb_O w H1_ (o) 2 [.int (iZ (1)), .int (iZ ((S.1 1))), .ref (o + 1), .ref (o + 2), .ref (o + 3), .ref (o + 4), .ref (o + 5), .ref (o + 6), .ref (o + 7), .ref (o + 8), .ref (o + 9), .ref (o + 10), .ref (o + 11), .ref (o + 12), .int (iZ ((S.1 2))), .int (iZ ((S.1 3)))] := hO
    have hG := hG.kept (hu_.z (by omega))
    have hA1 := hA1.kept (hu_.2 _ (by omega))
    have hA2 := hA2.kept (hu_.2 _ (by omega))
    have hA3 := hA3.kept (hu_.2 _ (by omega))
    have hA4 := hA4.kept (hu_.2 _ (by omega))
    have hA5 := hA5.kept (hu_.2 _ (by omega))
    have hA6 := hA6.kept (hu_.2 _ (by omega))
    have hA7 := hA7.kept (hu_.2 _ (by omega))
    have hA8 := hA8.kept (hu_.2 _ (by omega))
    have hA9 := hA9.kept (hu_.2 _ (by omega))
    have hA10 := hA10.kept (hu_.2 _ (by omega))
    have hA11 := hA11.kept (hu_.2 _ (by omega))
    have hA12 := hA12.kept (hu_.2 _ (by omega))
    have hF := hF.up hu_ (by omega)
    refine pb_aload_n C dX3_moveTo_17 rfl (lv_at hl 0 rfl) ?_
    refine pb_get C in_X3 hO.r (ci := 2) rfl 0 (by decide) q1737 (fun _ h9 => h9) (v := .int (iZ (1))) rfl dX3_moveTo_18 ?_
    refine pb_if_eq C dX3_moveTo_21 (x := 1) (tgt := 26) (by decide) (by omega) (fun c21_ => ?_) (fun c21_ => ?_)
    · exact absurd c21_ (by decide)
    · refine pb_ic C dX3_moveTo_24 ?_
      exact pb_iret C dX3_moveTo_25 (⟨_, rfl, rfl, ⟨hz, hO, hA1, hA2, hA3, hA4, hA5, hA6, hA7, hA8, hA9, hA10, hA11, hA12⟩, hF⟩)
  · have c6_ := of_decide_eq_true c6_
    omega

