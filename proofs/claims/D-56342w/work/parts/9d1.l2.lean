set_option maxRecDepth 100000
set_option maxHeartbeats 1000000 in
theorem blk_pointCount {w : pb_W} {p : Program} {l : Launch} {e : Env} {s : State} {m_ : MethodId} {below : List Frame} {meth : Method} {c : Code} {Q : State → Prop} {b0 L : Nat} {xs : Nat → Int32} (C : pb_C w p s m_ meth c #[.ref b0] cL_law 9 RX0 meth.name ret) (hN : pb_Nc s) {H : Heap} (hG : pb_G w s H) (hX : va_X b0 L xs s H) (hb0 : b0 < w.2.2.2) (i : Nat) (hi : i + 6 ≤ L) (hL : L ≤ 144) (bO sl o oL oD : Nat) (S : mS) (hLI : LWI w H bO sl o oL oD S) (bc bs : Nat) (ls : Array Slot) (hl : lv_has ls 9 [(5, .int (iZ ((i : Nat) : Int))), (0, .ref b0), (1, .ref bO), (2, .ref o), (3, .ref oL), (4, .ref oD)]) (kk : ∀ (H3 : Heap) (S3 : mS) (ls : Array Slot), pb_G w s H3 → va_X b0 L xs s H3 → LWI w H3 bO sl o oL oD S3 → lv_has ls 9 [(5, .int (iZ ((i : Nat) : Int))), (0, .ref b0), (1, .ref bO), (2, .ref o), (3, .ref oL), (4, .ref oD)] → pb_V w.2.2.2 p l e room_1 s m_ #[.ref b0] below meth c H3 bc bs Q (F0 m_ 3538 ls [])) : pb_V w.2.2.2 p l e room_1 s m_ #[.ref b0] below meth c H (bc + 49000) (bs + 228000) Q (F0 m_ 1378 ls []) := by
  obtain ⟨hr9, fs9, hO9, hM9⟩ := hLI.pc l
  obtain ⟨hM0, -, hz1, hz2, hz3, hz4, hz5, hz6, -⟩ := hLI.st
  obtain ⟨fsO, hOo⟩ := hM0.o
  refine pb_aload_n C dL_law_1378 rfl (lv_at hl 2 rfl) ?_
  refine pb_go_x (bc' := (bc + 49000)) (bs' := (bs + 228000)) (pb_runV (rest := []) C hG (hM9) hO9 (ci := 0) rfl (lw_V q234 q235 q236 q51 q237) ⟨rfl, hdX1_pointCount⟩ rfl hl.1 rfl (Nat.le_of_ble_eq_true rfl) ⟨(Nat.le_of_ble_eq_true rfl), (Nat.le_of_ble_eq_true rfl)⟩ dL_law_1379) (by omega) (by omega) ?_
  refine pb_aload_n C dL_law_1382 rfl (lv_at hl 3 rfl) ?_
  refine pb_go_i (bc' := (bc + 49000)) (bs' := (bs + 228000)) (pb_runV (rest := [.int (iZ ((S.1 1)))]) C hG (met_X3_pointCount l o S hM0) hOo (ci := 2) rfl (lw_V q1925 q1926 q1927 q60 q1928) ⟨rfl, hdX3_pointCount⟩ rfl hl.1 rfl (Nat.le_of_ble_eq_true rfl) ⟨(Nat.le_of_ble_eq_true rfl), (Nat.le_of_ble_eq_true rfl)⟩ dL_law_1383) (by omega) (by omega) (fun z_ H3 hp_ => ?_)
  obtain ⟨hz9, hMW9, hF9⟩ := hp_
  have hLI := hLI.mF9 hMW9 hF9
  have hG := hG.kept (hF9.z hM0.1)
  have hX := hX.kept (hF9.2 _ (Or.inl (by have := hM0.1; omega)))
  refine pb_icmp_eq C dL_law_1386 (x := (S.1 1)) (y := z_) (tgt := 3538) (by decide) (by omega) (by omega) (fun c1386_ => ?_) (fun c1386_ => ?_)
  · exact pb_V.mono (by omega) (by omega) (kk H3 (mI S 0 0) ls hG hX hLI (lv_sub hl [0, 1, 2, 3, 4, 5] rfl))
  · exact absurd hz9.symm c1386_

set_option maxHeartbeats 1000000 in
theorem law_pro {w : pb_W} {p : Program} {l : Launch} {e : Env} {s : State} {m_ : MethodId} {below : List Frame} {meth : Method} {c : Code} {Q : State → Prop} {b0 L : Nat} {xs : Nat → Int32} (C : pb_C w p s m_ meth c #[.ref b0] cL_law 9 RX0 meth.name ret) (hN : pb_Nc s) {H : Heap} (hG : pb_G w s H) (hX : va_X b0 L xs s H) (hb0 : b0 < w.2.2.2) (bc bs : Nat) (ls : Array Slot) (hl : lv_has ls 9 [(0, .ref b0)]) (kk : ∀ (H3 : Heap) (bO sl o oL oD : Nat) (S3 : mS) (ls : Array Slot), pb_G w s H3 → va_X b0 L xs s H3 → LWI w H3 bO sl o oL oD S3 → lv_has ls 9 [(5, .int (iZ ((0 : Nat) : Int))), (0, .ref b0), (1, .ref bO), (2, .ref o), (3, .ref oL), (4, .ref oD)] → pb_V w.2.2.2 p l e room_1 s m_ #[.ref b0] below meth c H3 bc bs Q (F0 m_ 28 ls [])) : pb_V w.2.2.2 p l e room_1 s m_ #[.ref b0] below meth c H (bc + 34) (bs + 5014) Q (F0 m_ 0 ls []) := by
  have hzs := hG.1
  have hg0 := hG.2.2.1
  obtain ⟨b9, hb9⟩ : ∃ z1, z1 = H.size := ⟨_, rfl⟩
  refine pb_newE C in_X1 tyX1 tyX1_ok (ci := 0) rfl q93 q94 q51 (fs := [.null, .null]) (by decide) (bc' := (bc + 34) - 1) (bs' := (bs + 5014) - 2) (by omega) (by omega) dL_law_0 fun a1_ H1_ ha_ hn_ hN1_ => ?_
  have hs1_ : H1_.size = H.size + 1 := hn_.1
  have hG := hG.kept (hn_.f.mono (fun _ _ _ => trivial))
  have hX := hX.kept (hn_.2 _ hX.lt)
  have hfn1 := hn_
  obtain rfl : b9 = a1_ := by omega
  skip
  have hN9 := hN1_
  refine pb_dup C dL_law_3 rfl ?_
  refine pb_go_v (bc' := (bc + 34) - 1 - 18) (bs' := (bs + 5014) - 2 - 45) (pb_runI (rest := [.ref (b9)]) C hG (met_X1_init l b9 (by omega) hN9) q95 q96 q51 q97 rfl hdX1_init rfl hl.1 rfl (Nat.le_of_ble_eq_true rfl) ⟨(Nat.le_of_ble_eq_true rfl), (Nat.le_of_ble_eq_true rfl)⟩ dL_law_4) (by omega) (by omega) (fun H2 hp_ => ?_)
  obtain ⟨sl9, e9, V9, hBP, hsl9, he9, hF9⟩ := hp_
  have hs9 := hF9.1
  have hG := hG.kept (hF9.mono (fun q _ (hq : q < w.2.2.2) => ⟨by omega, by omega⟩))
  have hX := hX.kept (hF9.2 _ (by have := hX.lt; omega) ⟨by have := hX.lt; omega, by omega⟩)
  refine pb_astore_n C dL_law_7 rfl hl (by decide) rfl fun ls hl => ?_
  have hl : lv_has ls 9 [(1, .ref (b9)), (0, .ref (b0))] := hl
  obtain ⟨o9, ho9⟩ : ∃ z1, z1 = H2.size := ⟨_, rfl⟩
  refine pb_newE C in_X3 tyX3 tyX3_ok (ci := 2) rfl q1731 q1732 q60 (fs := [.int (iZ (0)), .int (iZ (0)), .null, .null, .null, .null, .null, .null, .null, .null, .null, .null, .null, .null, .int (iZ (0)), .int (iZ (0))]) (by decide) (bc' := (bc + 34) - 1 - 18 - 1) (bs' := (bs + 5014) - 2 - 45 - 16) (by omega) (by omega) dL_law_8 fun a2_ H2_ ha_ hn_ hN2_ => ?_
  have hs2_ : H2_.size = H2.size + 1 := hn_.1
  have hG := hG.kept (hn_.f.mono (fun _ _ _ => trivial))
  have hX := hX.kept (hn_.2 _ hX.lt)
  have hfn2 := hn_
  obtain rfl : o9 = a2_ := by omega
  skip
  have hO9 := hN2_
  refine pb_dup C dL_law_11 rfl ?_
  refine pb_go_v (bc' := (bc + 34) - 1 - 18 - 1 - 12) (bs' := (bs + 5014) - 2 - 45 - 16 - 4949) (pb_runI (rest := [.ref (o9)]) C hG (met_X3_init l o9 (by omega) (by omega) hO9) q1733 q1734 q60 q1735 rfl hdX3_init rfl hl.1 rfl (Nat.le_of_ble_eq_true rfl) ⟨(Nat.le_of_ble_eq_true rfl), (Nat.le_of_ble_eq_true rfl)⟩ dL_law_12) (by omega) (by omega) (fun H4 hp_ => ?_)
  obtain ⟨hMW, hs4, hF4⟩ := hp_
  have hs5 := hF4.1
  have hG := hG.kept (hF4.mono (fun q _ (hq : q < w.2.2.2) => show q < o9 from by omega))
  have hX := hX.kept (hF4.2 _ (by have := hX.lt; omega) (show b0 < o9 from by omega))
  refine pb_astore_n C dL_law_15 rfl hl (by decide) rfl fun ls hl => ?_
  have hl : lv_has ls 9 [(2, .ref (o9)), (1, .ref (b9)), (0, .ref (b0))] := hl
  obtain ⟨oL9, hoL9⟩ : ∃ z1, z1 = H4.size := ⟨_, rfl⟩
  refine pb_ic C dL_law_16 ?_
  refine pb_newaE C 2 (by decide) (atype := .long) rfl q2117 (n := 1) (by omega) rfl (bc' := (bc + 34) - 1 - 18 - 1 - 12 - 1) (bs' := (bs + 5014) - 2 - 45 - 16 - 4949 - 1) (by omega) (by omega) dL_law_17 fun a3_ H3_ ha_ hn_ hN3_ => ?_
  have hs3_ : H3_.size = H4.size + 1 := hn_.1
  have hG := hG.kept (hn_.f.mono (fun _ _ _ => trivial))
  have hX := hX.kept (hn_.2 _ hX.lt)
  have hfn3 := hn_
  obtain rfl : oL9 = a3_ := by omega
  skip
  have hAL9 := hN3_
  have hAL9 : pb_A w H3_ (oL9) 2 1 (fun _ => .long 0) := hAL9
  refine pb_astore_n C dL_law_19 rfl hl (by decide) rfl fun ls hl => ?_
  have hl : lv_has ls 9 [(3, .ref (oL9)), (2, .ref (o9)), (1, .ref (b9)), (0, .ref (b0))] := hl
  obtain ⟨oD9, hoD9⟩ : ∃ z1, z1 = H3_.size := ⟨_, rfl⟩
  refine pb_ic C dL_law_20 ?_
  refine pb_newaE C 3 (by decide) (atype := .double) rfl q2118 (n := 1) (by omega) rfl (bc' := (bc + 34) - 1 - 18 - 1 - 12 - 1 - 1) (bs' := (bs + 5014) - 2 - 45 - 16 - 4949 - 1 - 1) (by omega) (by omega) dL_law_21 fun a4_ H4_ ha_ hn_ hN4_ => ?_
  have hs4_ : H4_.size = H3_.size + 1 := hn_.1
  have hG := hG.kept (hn_.f.mono (fun _ _ _ => trivial))
  have hAL9 := hAL9.kept (hn_.2 _ hAL9.lt)
  have hX := hX.kept (hn_.2 _ hX.lt)
  have hfn4 := hn_
  skip
  obtain rfl : oD9 = a4_ := by omega
  skip
  have hAD9 := hN4_
  have hAD9 : pb_A w H4_ (oD9) 3 1 (fun _ => .double 0) := hAD9
  refine pb_astore C dL_law_23 hl (by decide) rfl fun ls hl => ?_
  have hl : lv_has ls 9 [(4, .ref (oD9)), (3, .ref (oL9)), (2, .ref (o9)), (1, .ref (b9)), (0, .ref (b0))] := hl
  refine pb_ic C dL_law_25 ?_
  refine pb_istore C dL_law_26 hl (by decide) rfl fun ls hl => ?_
  have hl : lv_has ls 9 [(5, .int (iZ (0))), (4, .ref (oD9)), (3, .ref (oL9)), (2, .ref (o9)), (1, .ref (b9)), (0, .ref (b0))] := hl
  have hLI := lwi_start hBP (by omega) (by omega) hfn2 ho9 hMW hs4 hF4 hfn3 hoL9 hfn4 (by omega) hAL9 hAD9
  exact pb_V.mono (by omega) (by omega) (kk H4_ _ _ _ _ _ mS0 ls hG hX hLI (lv_sub hl [0, 5, 4, 3, 2, 1] rfl))

