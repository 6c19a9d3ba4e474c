set_option maxRecDepth 100000
set_option maxHeartbeats 1000000 in
theorem met_X3_init {w : pb_W} (l : Launch) {H0 : Heap} (o : Nat) (hz : w.2.2.2 ≤ o) (hsz : H0.size = o + 1) (hO : pb_O w H0 o 2 [.int (iZ (0)), .int (iZ (0)), .null, .null, .null, .null, .null, .null, .null, .null, .null, .null, .null, .null, .int (iZ (0)), .int (iZ (0))]) : pb_M w l yX3_init cX3_init 1 none 1 (12) (4949) [.ref (o)] H0 (pb_qv (fun H1 => MW w H1 o mS0 ∧ H1.size = o + 13 ∧ pb_F (fun q => q < o) H0 H1)) := by
  refine pb_of (by decide +kernel) (Nat.le_of_ble_eq_true rfl) ?_
  intro p_ e_ s_ m_ ar_ bl_ me_ co_ ls C hh hG hl
  have hl : lv_has ls 1 [(0, .ref (o))] := hl
  have hFF : pb_F (fun q => q < o) H0 H0 := pb_F.rf
  refine pb_aload_n C dX3_init_0 rfl (lv_at hl 0 rfl) ?_
  refine pb_objInit C q1736 q99 q100 hl.1 ⟨(Nat.le_of_ble_eq_true rfl), (Nat.le_of_ble_eq_true rfl)⟩ dX3_init_1 ?_
  refine pb_aload_n C dX3_init_4 rfl (lv_at hl 0 rfl) ?_
  refine pb_sip C dX3_init_5 (by decide) ?_
  refine pb_newaE C 0 (by decide) (atype := .int) rfl q417 (n := 192) (by omega) rfl (bc' := 11) (bs' := 4757) (by omega) (by omega) dX3_init_8 fun a1_ H1_ ha_ hn_ hN1_ => ?_
  have hs1_ : H1_.size = H0.size + 1 := hn_.1
  have hG := hG.kept (hn_.f.mono (fun _ _ _ => trivial))
  have hO := hO.kept (hn_.2 _ hO.lt)
  have hFF := hFF.tr (hn_.f.mono (fun _ _ _ => trivial))
  obtain rfl : a1_ = o + 1 := by omega
  skip
  have hA1 := hN1_
  have hA1 : pb_A w H1_ (o + 1) 0 192 (fun _ => .int (iZ (0))) := hA1
  refine pb_putF C in_X3 tyX3 tyX3_ok nmX3 hO (ci := 2) rfl 2 (by decide) q1739 (fun _ h9 => h9) rfl rfl rfl (v := .ref (o + 1)) rfl rfl (Nat.le_of_ble_eq_true rfl) (by omega) dX3_init_10 fun H2_ hu_ hO => ?_
  have hO : pb_O w H2_ (o) 2 [.int (iZ (0)), .int (iZ (0)), .ref (o + 1), .null, .null, .null, .null, .null, .null, .null, .null, .null, .null, .null, .int (iZ (0)), .int (iZ (0))] := hO
  have hG := hG.kept (hu_.z (by omega))
  have hs_H2_ := hu_.1
  have hA1 := hA1.kept (hu_.2 _ (by omega))
  have hFF := hFF.tr (hu_.f.mono (fun q _ hq => by omega))
  refine pb_aload_n C dX3_init_13 rfl (lv_at hl 0 rfl) ?_
  refine pb_bip C dX3_init_14 (by decide) ?_
  refine pb_newaE C 0 (by decide) (atype := .int) rfl q417 (n := 24) (by omega) rfl (bc' := 10) (bs' := 4733) (by omega) (by omega) dX3_init_16 fun a3_ H3_ ha_ hn_ hN3_ => ?_
  have hs3_ : H3_.size = H2_.size + 1 := hn_.1
  have hG := hG.kept (hn_.f.mono (fun _ _ _ => trivial))
  have hO := hO.kept (hn_.2 _ hO.lt)
  have hA1 := hA1.kept (hn_.2 _ hA1.lt)
  have hFF := hFF.tr (hn_.f.mono (fun _ _ _ => trivial))
  obtain rfl : a3_ = o + 2 := by omega
  skip
  have hA2 := hN3_
  have hA2 : pb_A w H3_ (o + 2) 0 24 (fun _ => .int (iZ (0))) := hA2
  refine pb_putF C in_X3 tyX3 tyX3_ok nmX3 hO (ci := 2) rfl 3 (by decide) q1740 (fun _ h9 => h9) rfl rfl rfl (v := .ref (o + 2)) rfl rfl (Nat.le_of_ble_eq_true rfl) (by omega) dX3_init_18 fun H4_ hu_ hO => ?_
  have hO : pb_O w H4_ (o) 2 [.int (iZ (0)), .int (iZ (0)), .ref (o + 1), .ref (o + 2), .null, .null, .null, .null, .null, .null, .null, .null, .null, .null, .int (iZ (0)), .int (iZ (0))] := hO
  have hG := hG.kept (hu_.z (by omega))
  have hs_H4_ := hu_.1
  have hA1 := hA1.kept (hu_.2 _ (by omega))
  have hA2 := hA2.kept (hu_.2 _ (by omega))
  have hFF := hFF.tr (hu_.f.mono (fun q _ hq => by omega))
  refine pb_aload_n C dX3_init_21 rfl (lv_at hl 0 rfl) ?_
  refine pb_bip C dX3_init_22 (by decide) ?_
  refine pb_newaE C 0 (by decide) (atype := .int) rfl q417 (n := 26) (by omega) rfl (bc' := 9) (bs' := 4707) (by omega) (by omega) dX3_init_24 fun a5_ H5_ ha_ hn_ hN5_ => ?_
  have hs5_ : H5_.size = H4_.size + 1 := hn_.1
  have hG := hG.kept (hn_.f.mono (fun _ _ _ => trivial))
  have hO := hO.kept (hn_.2 _ hO.lt)
  have hA1 := hA1.kept (hn_.2 _ hA1.lt)
  have hA2 := hA2.kept (hn_.2 _ hA2.lt)
  have hFF := hFF.tr (hn_.f.mono (fun _ _ _ => trivial))
  obtain rfl : a5_ = o + 3 := by omega
  skip
  have hA3 := hN5_
  have hA3 : pb_A w H5_ (o + 3) 0 26 (fun _ => .int (iZ (0))) := hA3
  refine pb_putF C in_X3 tyX3 tyX3_ok nmX3 hO (ci := 2) rfl 4 (by decide) q1741 (fun _ h9 => h9) rfl rfl rfl (v := .ref (o + 3)) rfl rfl (Nat.le_of_ble_eq_true rfl) (by omega) dX3_init_26 fun H6_ hu_ hO => ?_
  have hO : pb_O w H6_ (o) 2 [.int (iZ (0)), .int (iZ (0)), .ref (o + 1), .ref (o + 2), .ref (o + 3), .null, .null, .null, .null, .null, .null, .null, .null, .null, .int (iZ (0)), .int (iZ (0))] := hO
  have hG := hG.kept (hu_.z (by omega))
  have hs_H6_ := hu_.1
  have hA1 := hA1.kept (hu_.2 _ (by omega))
  have hA2 := hA2.kept (hu_.2 _ (by omega))
  have hA3 := hA3.kept (hu_.2 _ (by omega))
  have hFF := hFF.tr (hu_.f.mono (fun q _ hq => by omega))
  refine pb_aload_n C dX3_init_29 rfl (lv_at hl 0 rfl) ?_
  refine pb_bip C dX3_init_30 (by decide) ?_
  refine pb_newaE C 0 (by decide) (atype := .int) rfl q417 (n := 26) (by omega) rfl (bc' := 8) (bs' := 4681) (by omega) (by omega) dX3_init_32 fun a7_ H7_ ha_ hn_ hN7_ => ?_
  have hs7_ : H7_.size = H6_.size + 1 := hn_.1
  have hG := hG.kept (hn_.f.mono (fun _ _ _ => trivial))
  have hO := hO.kept (hn_.2 _ hO.lt)
  have hA1 := hA1.kept (hn_.2 _ hA1.lt)
  have hA2 := hA2.kept (hn_.2 _ hA2.lt)
  have hA3 := hA3.kept (hn_.2 _ hA3.lt)
  have hFF := hFF.tr (hn_.f.mono (fun _ _ _ => trivial))
  obtain rfl : a7_ = o + 4 := by omega
  skip
  have hA4 := hN7_
  have hA4 : pb_A w H7_ (o + 4) 0 26 (fun _ => .int (iZ (0))) := hA4
  refine pb_putF C in_X3 tyX3 tyX3_ok nmX3 hO (ci := 2) rfl 5 (by decide) q1742 (fun _ h9 => h9) rfl rfl rfl (v := .ref (o + 4)) rfl rfl (Nat.le_of_ble_eq_true rfl) (by omega) dX3_init_34 fun H8_ hu_ hO => ?_
  have hO : pb_O w H8_ (o) 2 [.int (iZ (0)), .int (iZ (0)), .ref (o + 1), .ref (o + 2), .ref (o + 3), .ref (o + 4), .null, .null, .null, .null, .null, .null, .null, .null, .int (iZ (0)), .int (iZ (0))] := hO
  have hG := hG.kept (hu_.z (by omega))
  have hs_H8_ := hu_.1
  have hA1 := hA1.kept (hu_.2 _ (by omega))
  have hA2 := hA2.kept (hu_.2 _ (by omega))
  have hA3 := hA3.kept (hu_.2 _ (by omega))
  have hA4 := hA4.kept (hu_.2 _ (by omega))
  have hFF := hFF.tr (hu_.f.mono (fun q _ hq => by omega))
  refine pb_aload_n C dX3_init_37 rfl (lv_at hl 0 rfl) ?_
  refine pb_bip C dX3_init_38 (by decide) ?_
  refine pb_newaE C 0 (by decide) (atype := .int) rfl q417 (n := 40) (by omega) rfl (bc' := 7) (bs' := 4641) (by omega) (by omega) dX3_init_40 fun a9_ H9_ ha_ hn_ hN9_ => ?_
  have hs9_ : H9_.size = H8_.size + 1 := hn_.1
  have hG := hG.kept (hn_.f.mono (fun _ _ _ => trivial))
  have hO := hO.kept (hn_.2 _ hO.lt)
  have hA1 := hA1.kept (hn_.2 _ hA1.lt)
  have hA2 := hA2.kept (hn_.2 _ hA2.lt)
  have hA3 := hA3.kept (hn_.2 _ hA3.lt)
  have hA4 := hA4.kept (hn_.2 _ hA4.lt)
  have hFF := hFF.tr (hn_.f.mono (fun _ _ _ => trivial))
  obtain rfl : a9_ = o + 5 := by omega
  skip
  have hA5 := hN9_
  have hA5 : pb_A w H9_ (o + 5) 0 40 (fun _ => .int (iZ (0))) := hA5
  refine pb_putF C in_X3 tyX3 tyX3_ok nmX3 hO (ci := 2) rfl 6 (by decide) q1743 (fun _ h9 => h9) rfl rfl rfl (v := .ref (o + 5)) rfl rfl (Nat.le_of_ble_eq_true rfl) (by omega) dX3_init_42 fun H10_ hu_ hO => ?_
  have hO : pb_O w H10_ (o) 2 [.int (iZ (0)), .int (iZ (0)), .ref (o + 1), .ref (o + 2), .ref (o + 3), .ref (o + 4), .ref (o + 5), .null, .null, .null, .null, .null, .null, .null, .int (iZ (0)), .int (iZ (0))] := hO
  have hG := hG.kept (hu_.z (by omega))
  have hs_H10_ := hu_.1
  have hA1 := hA1.kept (hu_.2 _ (by omega))
  have hA2 := hA2.kept (hu_.2 _ (by omega))
  have hA3 := hA3.kept (hu_.2 _ (by omega))
  have hA4 := hA4.kept (hu_.2 _ (by omega))
  have hA5 := hA5.kept (hu_.2 _ (by omega))
  have hFF := hFF.tr (hu_.f.mono (fun q _ hq => by omega))
  refine pb_aload_n C dX3_init_45 rfl (lv_at hl 0 rfl) ?_
  refine pb_bip C dX3_init_46 (by decide) ?_
  refine pb_newaE C 0 (by decide) (atype := .int) rfl q417 (n := 40) (by omega) rfl (bc' := 6) (bs' := 4601) (by omega) (by omega) dX3_init_48 fun a11_ H11_ ha_ hn_ hN11_ => ?_
  have hs11_ : H11_.size = H10_.size + 1 := hn_.1
  have hG := hG.kept (hn_.f.mono (fun _ _ _ => trivial))
  have hO := hO.kept (hn_.2 _ hO.lt)
  have hA1 := hA1.kept (hn_.2 _ hA1.lt)
  have hA2 := hA2.kept (hn_.2 _ hA2.lt)
  have hA3 := hA3.kept (hn_.2 _ hA3.lt)
  have hA4 := hA4.kept (hn_.2 _ hA4.lt)
  have hA5 := hA5.kept (hn_.2 _ hA5.lt)
  have hFF := hFF.tr (hn_.f.mono (fun _ _ _ => trivial))
  obtain rfl : a11_ = o + 6 := by omega
  skip
  have hA6 := hN11_
  have hA6 : pb_A w H11_ (o + 6) 0 40 (fun _ => .int (iZ (0))) := hA6
  refine pb_putF C in_X3 tyX3 tyX3_ok nmX3 hO (ci := 2) rfl 7 (by decide) q1744 (fun _ h9 => h9) rfl rfl rfl (v := .ref (o + 6)) rfl rfl (Nat.le_of_ble_eq_true rfl) (by omega) dX3_init_50 fun H12_ hu_ hO => ?_
  have hO : pb_O w H12_ (o) 2 [.int (iZ (0)), .int (iZ (0)), .ref (o + 1), .ref (o + 2), .ref (o + 3), .ref (o + 4), .ref (o + 5), .ref (o + 6), .null, .null, .null, .null, .null, .null, .int (iZ (0)), .int (iZ (0))] := hO
  have hG := hG.kept (hu_.z (by omega))
  have hs_H12_ := hu_.1
  have hA1 := hA1.kept (hu_.2 _ (by omega))
  have hA2 := hA2.kept (hu_.2 _ (by omega))
  have hA3 := hA3.kept (hu_.2 _ (by omega))
  have hA4 := hA4.kept (hu_.2 _ (by omega))
  have hA5 := hA5.kept (hu_.2 _ (by omega))
  have hA6 := hA6.kept (hu_.2 _ (by omega))
  have hFF := hFF.tr (hu_.f.mono (fun q _ hq => by omega))
  refine pb_aload_n C dX3_init_53 rfl (lv_at hl 0 rfl) ?_
  refine pb_sip C dX3_init_54 (by decide) ?_
  refine pb_newaE C 0 (by decide) (atype := .int) rfl q417 (n := 576) (by omega) rfl (bc' := 5) (bs' := 4025) (by omega) (by omega) dX3_init_57 fun a13_ H13_ ha_ hn_ hN13_ => ?_
  have hs13_ : H13_.size = H12_.size + 1 := hn_.1
  have hG := hG.kept (hn_.f.mono (fun _ _ _ => trivial))
  have hO := hO.kept (hn_.2 _ hO.lt)
  have hA1 := hA1.kept (hn_.2 _ hA1.lt)
  have hA2 := hA2.kept (hn_.2 _ hA2.lt)
  have hA3 := hA3.kept (hn_.2 _ hA3.lt)
  have hA4 := hA4.kept (hn_.2 _ hA4.lt)
  have hA5 := hA5.kept (hn_.2 _ hA5.lt)
  have hA6 := hA6.kept (hn_.2 _ hA6.lt)
  have hFF := hFF.tr (hn_.f.mono (fun _ _ _ => trivial))
  obtain rfl : a13_ = o + 7 := by omega
  skip
  have hA7 := hN13_
  have hA7 : pb_A w H13_ (o + 7) 0 576 (fun _ => .int (iZ (0))) := hA7
  refine pb_putF C in_X3 tyX3 tyX3_ok nmX3 hO (ci := 2) rfl 8 (by decide) q1745 (fun _ h9 => h9) rfl rfl rfl (v := .ref (o + 7)) rfl rfl (Nat.le_of_ble_eq_true rfl) (by omega) dX3_init_59 fun H14_ hu_ hO => ?_
  have hO : pb_O w H14_ (o) 2 [.int (iZ (0)), .int (iZ (0)), .ref (o + 1), .ref (o + 2), .ref (o + 3), .ref (o + 4), .ref (o + 5), .ref (o + 6), .ref (o + 7), .null, .null, .null, .null, .null, .int (iZ (0)), .int (iZ (0))] := hO
  have hG := hG.kept (hu_.z (by omega))
  have hs_H14_ := hu_.1
  have hA1 := hA1.kept (hu_.2 _ (by omega))
  have hA2 := hA2.kept (hu_.2 _ (by omega))
  have hA3 := hA3.kept (hu_.2 _ (by omega))
  have hA4 := hA4.kept (hu_.2 _ (by omega))
  have hA5 := hA5.kept (hu_.2 _ (by omega))
  have hA6 := hA6.kept (hu_.2 _ (by omega))
  have hA7 := hA7.kept (hu_.2 _ (by omega))
  have hFF := hFF.tr (hu_.f.mono (fun q _ hq => by omega))
  refine pb_aload_n C dX3_init_62 rfl (lv_at hl 0 rfl) ?_
  refine pb_sip C dX3_init_63 (by decide) ?_
  refine pb_newaE C 0 (by decide) (atype := .int) rfl q417 (n := 1300) (by omega) rfl (bc' := 4) (bs' := 2725) (by omega) (by omega) dX3_init_66 fun a15_ H15_ ha_ hn_ hN15_ => ?_
  have hs15_ : H15_.size = H14_.size + 1 := hn_.1
  have hG := hG.kept (hn_.f.mono (fun _ _ _ => trivial))
  have hO := hO.kept (hn_.2 _ hO.lt)
  have hA1 := hA1.kept (hn_.2 _ hA1.lt)
  have hA2 := hA2.kept (hn_.2 _ hA2.lt)
  have hA3 := hA3.kept (hn_.2 _ hA3.lt)
  have hA4 := hA4.kept (hn_.2 _ hA4.lt)
  have hA5 := hA5.kept (hn_.2 _ hA5.lt)
  have hA6 := hA6.kept (hn_.2 _ hA6.lt)
  have hA7 := hA7.kept (hn_.2 _ hA7.lt)
  have hFF := hFF.tr (hn_.f.mono (fun _ _ _ => trivial))
  obtain rfl : a15_ = o + 8 := by omega
  skip
  have hA8 := hN15_
  have hA8 : pb_A w H15_ (o + 8) 0 1300 (fun _ => .int (iZ (0))) := hA8
  refine pb_putF C in_X3 tyX3 tyX3_ok nmX3 hO (ci := 2) rfl 9 (by decide) q1746 (fun _ h9 => h9) rfl rfl rfl (v := .ref (o + 8)) rfl rfl (Nat.le_of_ble_eq_true rfl) (by omega) dX3_init_68 fun H16_ hu_ hO => ?_
  have hO : pb_O w H16_ (o) 2 [.int (iZ (0)), .int (iZ (0)), .ref (o + 1), .ref (o + 2), .ref (o + 3), .ref (o + 4), .ref (o + 5), .ref (o + 6), .ref (o + 7), .ref (o + 8), .null, .null, .null, .null, .int (iZ (0)), .int (iZ (0))] := hO
  have hG := hG.kept (hu_.z (by omega))
  have hs_H16_ := hu_.1
  have hA1 := hA1.kept (hu_.2 _ (by omega))
  have hA2 := hA2.kept (hu_.2 _ (by omega))
  have hA3 := hA3.kept (hu_.2 _ (by omega))
  have hA4 := hA4.kept (hu_.2 _ (by omega))
  have hA5 := hA5.kept (hu_.2 _ (by omega))
  have hA6 := hA6.kept (hu_.2 _ (by omega))
  have hA7 := hA7.kept (hu_.2 _ (by omega))
  have hA8 := hA8.kept (hu_.2 _ (by omega))
  have hFF := hFF.tr (hu_.f.mono (fun q _ hq => by omega))
  refine pb_aload_n C dX3_init_71 rfl (lv_at hl 0 rfl) ?_
  refine pb_sip C dX3_init_72 (by decide) ?_
  refine pb_newaE C 0 (by decide) (atype := .int) rfl q417 (n := 1300) (by omega) rfl (bc' := 3) (bs' := 1425) (by omega) (by omega) dX3_init_75 fun a17_ H17_ ha_ hn_ hN17_ => ?_
  have hs17_ : H17_.size = H16_.size + 1 := hn_.1
  have hG := hG.kept (hn_.f.mono (fun _ _ _ => trivial))
  have hO := hO.kept (hn_.2 _ hO.lt)
  have hA1 := hA1.kept (hn_.2 _ hA1.lt)
  have hA2 := hA2.kept (hn_.2 _ hA2.lt)
  have hA3 := hA3.kept (hn_.2 _ hA3.lt)
  have hA4 := hA4.kept (hn_.2 _ hA4.lt)
  have hA5 := hA5.kept (hn_.2 _ hA5.lt)
  have hA6 := hA6.kept (hn_.2 _ hA6.lt)
  have hA7 := hA7.kept (hn_.2 _ hA7.lt)
  have hA8 := hA8.kept (hn_.2 _ hA8.lt)
  have hFF := hFF.tr (hn_.f.mono (fun _ _ _ => trivial))
  obtain rfl : a17_ = o + 9 := by omega
  skip
  have hA9 := hN17_
  have hA9 : pb_A w H17_ (o + 9) 0 1300 (fun _ => .int (iZ (0))) := hA9
  refine pb_putF C in_X3 tyX3 tyX3_ok nmX3 hO (ci := 2) rfl 10 (by decide) q1747 (fun _ h9 => h9) rfl rfl rfl (v := .ref (o + 9)) rfl rfl (Nat.le_of_ble_eq_true rfl) (by omega) dX3_init_77 fun H18_ hu_ hO => ?_
  have hO : pb_O w H18_ (o) 2 [.int (iZ (0)), .int (iZ (0)), .ref (o + 1), .ref (o + 2), .ref (o + 3), .ref (o + 4), .ref (o + 5), .ref (o + 6), .ref (o + 7), .ref (o + 8), .ref (o + 9), .null, .null, .null, .int (iZ (0)), .int (iZ (0))] := hO
  have hG := hG.kept (hu_.z (by omega))
  have hs_H18_ := hu_.1
  have hA1 := hA1.kept (hu_.2 _ (by omega))
  have hA2 := hA2.kept (hu_.2 _ (by omega))
  have hA3 := hA3.kept (hu_.2 _ (by omega))
  have hA4 := hA4.kept (hu_.2 _ (by omega))
  have hA5 := hA5.kept (hu_.2 _ (by omega))
  have hA6 := hA6.kept (hu_.2 _ (by omega))
  have hA7 := hA7.kept (hu_.2 _ (by omega))
  have hA8 := hA8.kept (hu_.2 _ (by omega))
  have hA9 := hA9.kept (hu_.2 _ (by omega))
  have hFF := hFF.tr (hu_.f.mono (fun q _ hq => by omega))
  refine pb_aload_n C dX3_init_80 rfl (lv_at hl 0 rfl) ?_
  refine pb_sip C dX3_init_81 (by decide) ?_
  refine pb_newaE C 0 (by decide) (atype := .int) rfl q417 (n := 400) (by omega) rfl (bc' := 2) (bs' := 1025) (by omega) (by omega) dX3_init_84 fun a19_ H19_ ha_ hn_ hN19_ => ?_
  have hs19_ : H19_.size = H18_.size + 1 := hn_.1
  have hG := hG.kept (hn_.f.mono (fun _ _ _ => trivial))
  have hO := hO.kept (hn_.2 _ hO.lt)
  have hA1 := hA1.kept (hn_.2 _ hA1.lt)
  have hA2 := hA2.kept (hn_.2 _ hA2.lt)
  have hA3 := hA3.kept (hn_.2 _ hA3.lt)
  have hA4 := hA4.kept (hn_.2 _ hA4.lt)
  have hA5 := hA5.kept (hn_.2 _ hA5.lt)
  have hA6 := hA6.kept (hn_.2 _ hA6.lt)
  have hA7 := hA7.kept (hn_.2 _ hA7.lt)
  have hA8 := hA8.kept (hn_.2 _ hA8.lt)
  have hA9 := hA9.kept (hn_.2 _ hA9.lt)
  have hFF := hFF.tr (hn_.f.mono (fun _ _ _ => trivial))
  obtain rfl : a19_ = o + 10 := by omega
  skip
  have hA10 := hN19_
  have hA10 : pb_A w H19_ (o + 10) 0 400 (fun _ => .int (iZ (0))) := hA10
  refine pb_putF C in_X3 tyX3 tyX3_ok nmX3 hO (ci := 2) rfl 11 (by decide) q1748 (fun _ h9 => h9) rfl rfl rfl (v := .ref (o + 10)) rfl rfl (Nat.le_of_ble_eq_true rfl) (by omega) dX3_init_86 fun H20_ hu_ hO => ?_
  have hO : pb_O w H20_ (o) 2 [.int (iZ (0)), .int (iZ (0)), .ref (o + 1), .ref (o + 2), .ref (o + 3), .ref (o + 4), .ref (o + 5), .ref (o + 6), .ref (o + 7), .ref (o + 8), .ref (o + 9), .ref (o + 10), .null, .null, .int (iZ (0)), .int (iZ (0))] := hO
  have hG := hG.kept (hu_.z (by omega))
  have hs_H20_ := hu_.1
  have hA1 := hA1.kept (hu_.2 _ (by omega))
  have hA2 := hA2.kept (hu_.2 _ (by omega))
  have hA3 := hA3.kept (hu_.2 _ (by omega))
  have hA4 := hA4.kept (hu_.2 _ (by omega))
  have hA5 := hA5.kept (hu_.2 _ (by omega))
  have hA6 := hA6.kept (hu_.2 _ (by omega))
  have hA7 := hA7.kept (hu_.2 _ (by omega))
  have hA8 := hA8.kept (hu_.2 _ (by omega))
  have hA9 := hA9.kept (hu_.2 _ (by omega))
  have hA10 := hA10.kept (hu_.2 _ (by omega))
  have hFF := hFF.tr (hu_.f.mono (fun q _ hq => by omega))
  refine pb_aload_n C dX3_init_89 rfl (lv_at hl 0 rfl) ?_
  refine pb_sip C dX3_init_90 (by decide) ?_
  refine pb_newaE C 0 (by decide) (atype := .int) rfl q417 (n := 400) (by omega) rfl (bc' := 1) (bs' := 625) (by omega) (by omega) dX3_init_93 fun a21_ H21_ ha_ hn_ hN21_ => ?_
  have hs21_ : H21_.size = H20_.size + 1 := hn_.1
  have hG := hG.kept (hn_.f.mono (fun _ _ _ => trivial))
  have hO := hO.kept (hn_.2 _ hO.lt)
  have hA1 := hA1.kept (hn_.2 _ hA1.lt)
  have hA2 := hA2.kept (hn_.2 _ hA2.lt)
  have hA3 := hA3.kept (hn_.2 _ hA3.lt)
  have hA4 := hA4.kept (hn_.2 _ hA4.lt)
  have hA5 := hA5.kept (hn_.2 _ hA5.lt)
  have hA6 := hA6.kept (hn_.2 _ hA6.lt)
  have hA7 := hA7.kept (hn_.2 _ hA7.lt)
  have hA8 := hA8.kept (hn_.2 _ hA8.lt)
  have hA9 := hA9.kept (hn_.2 _ hA9.lt)
  have hA10 := hA10.kept (hn_.2 _ hA10.lt)
  have hFF := hFF.tr (hn_.f.mono (fun _ _ _ => trivial))
  obtain rfl : a21_ = o + 11 := by omega
  skip
  have hA11 := hN21_
  have hA11 : pb_A w H21_ (o + 11) 0 400 (fun _ => .int (iZ (0))) := hA11
  refine pb_putF C in_X3 tyX3 tyX3_ok nmX3 hO (ci := 2) rfl 12 (by decide) q1749 (fun _ h9 => h9) rfl rfl rfl (v := .ref (o + 11)) rfl rfl (Nat.le_of_ble_eq_true rfl) (by omega) dX3_init_95 fun H22_ hu_ hO => ?_
  have hO : pb_O w H22_ (o) 2 [.int (iZ (0)), .int (iZ (0)), .ref (o + 1), .ref (o + 2), .ref (o + 3), .ref (o + 4), .ref (o + 5), .ref (o + 6), .ref (o + 7), .ref (o + 8), .ref (o + 9), .ref (o + 10), .ref (o + 11), .null, .int (iZ (0)), .int (iZ (0))] := hO
  have hG := hG.kept (hu_.z (by omega))
  have hs_H22_ := hu_.1
  have hA1 := hA1.kept (hu_.2 _ (by omega))
  have hA2 := hA2.kept (hu_.2 _ (by omega))
  have hA3 := hA3.kept (hu_.2 _ (by omega))
  have hA4 := hA4.kept (hu_.2 _ (by omega))
  have hA5 := hA5.kept (hu_.2 _ (by omega))
  have hA6 := hA6.kept (hu_.2 _ (by omega))
  have hA7 := hA7.kept (hu_.2 _ (by omega))
  have hA8 := hA8.kept (hu_.2 _ (by omega))
  have hA9 := hA9.kept (hu_.2 _ (by omega))
  have hA10 := hA10.kept (hu_.2 _ (by omega))
  have hA11 := hA11.kept (hu_.2 _ (by omega))
  have hFF := hFF.tr (hu_.f.mono (fun q _ hq => by omega))
  refine pb_aload_n C dX3_init_98 rfl (lv_at hl 0 rfl) ?_
  refine pb_sip C dX3_init_99 (by decide) ?_
  refine pb_newaE C 0 (by decide) (atype := .int) rfl q417 (n := 625) (by omega) rfl (bc' := 0) (bs' := 0) (by omega) (by omega) dX3_init_102 fun a23_ H23_ ha_ hn_ hN23_ => ?_
  have hs23_ : H23_.size = H22_.size + 1 := hn_.1
  have hG := hG.kept (hn_.f.mono (fun _ _ _ => trivial))
  have hO := hO.kept (hn_.2 _ hO.lt)
  have hA1 := hA1.kept (hn_.2 _ hA1.lt)
  have hA2 := hA2.kept (hn_.2 _ hA2.lt)
  have hA3 := hA3.kept (hn_.2 _ hA3.lt)
  have hA4 := hA4.kept (hn_.2 _ hA4.lt)
  have hA5 := hA5.kept (hn_.2 _ hA5.lt)
  have hA6 := hA6.kept (hn_.2 _ hA6.lt)
  have hA7 := hA7.kept (hn_.2 _ hA7.lt)
  have hA8 := hA8.kept (hn_.2 _ hA8.lt)
  have hA9 := hA9.kept (hn_.2 _ hA9.lt)
  have hA10 := hA10.kept (hn_.2 _ hA10.lt)
  have hA11 := hA11.kept (hn_.2 _ hA11.lt)
  have hFF := hFF.tr (hn_.f.mono (fun _ _ _ => trivial))
  obtain rfl : a23_ = o + 12 := by omega
  skip
  have hA12 := hN23_
  have hA12 : pb_A w H23_ (o + 12) 0 625 (fun _ => .int (iZ (0))) := hA12
  refine pb_putF C in_X3 tyX3 tyX3_ok nmX3 hO (ci := 2) rfl 13 (by decide) q1750 (fun _ h9 => h9) rfl rfl rfl (v := .ref (o + 12)) rfl rfl (Nat.le_of_ble_eq_true rfl) (by omega) dX3_init_104 fun H24_ hu_ hO => ?_
  have hO : pb_O w H24_ (o) 2 [.int (iZ (0)), .int (iZ (0)), .ref (o + 1), .ref (o + 2), .ref (o + 3), .ref (o + 4), .ref (o + 5), .ref (o + 6), .ref (o + 7), .ref (o + 8), .ref (o + 9), .ref (o + 10), .ref (o + 11), .ref (o + 12), .int (iZ (0)), .int (iZ (0))] := hO
  have hG := hG.kept (hu_.z (by omega))
  have hs_H24_ := hu_.1
  have hA1 := hA1.kept (hu_.2 _ (by omega))
  have hA2 := hA2.kept (hu_.2 _ (by omega))
  have hA3 := hA3.kept (hu_.2 _ (by omega))
  have hA4 := hA4.kept (hu_.2 _ (by omega))
  have hA5 := hA5.kept (hu_.2 _ (by omega))
  have hA6 := hA6.kept (hu_.2 _ (by omega))
  have hA7 := hA7.kept (hu_.2 _ (by omega))
  have hA8 := hA8.kept (hu_.2 _ (by omega))
  have hA9 := hA9.kept (hu_.2 _ (by omega))
  have hA10 := hA10.kept (hu_.2 _ (by omega))
  have hA11 := hA11.kept (hu_.2 _ (by omega))
  have hA12 := hA12.kept (hu_.2 _ (by omega))
  have hFF := hFF.tr (hu_.f.mono (fun q _ hq => by omega))
  exact pb_vret C dX3_init_107 (⟨rfl, ⟨hz, hO, hA1, hA2, hA3, hA4, hA5, hA6, hA7, hA8, hA9, hA10, hA11, hA12⟩, by omega, hFF⟩)

