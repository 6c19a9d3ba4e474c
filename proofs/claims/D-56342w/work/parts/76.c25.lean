set_option maxRecDepth 100000
set_option maxHeartbeats 1000000 in
theorem met_J20_inc {w : pb_W} (l : Launch) {H : Heap} (i m : Nat) (hi : i < m) (hm : m ≤ 2000) : pb_M w l yJ20_inc cJ20_inc 2 (some .int) 0 (0) (0) [.int (iZ (((i : Nat) : Int))), .int (iZ (((m : Nat) : Int)))] H (pb_qx (.int (iZ ((dqP m i : Nat) : Int))) H) := by
  refine pb_of (by decide +kernel) (Nat.le_of_ble_eq_true rfl) ?_
  intro p_ e_ s_ m_ ar_ bl_ me_ co_ ls C hh hG hl
  have hl : lv_has ls 2 [(0, .int (iZ (((i : Nat) : Int)))), (1, .int (iZ (((m : Nat) : Int))))] := hl
  refine pb_iinc C dJ20_inc_0 hl (j := 0) (x := (((i : Nat) : Int))) rfl (by decide) rfl fun ls hl => ?_
  have hl : lv_has ls 2 [(0, .int (iZ ((((i + 1) : Nat) : Int)))), (1, .int (iZ (((m : Nat) : Int))))] := hl
  refine pb_iload_n C dJ20_inc_3 rfl (lv_at hl 0 rfl) ?_
  refine pb_iload_n C dJ20_inc_4 rfl (lv_at hl 1 rfl) ?_
  refine pb_icmp_lt C dJ20_inc_5 (x := (((i + 1) : Nat) : Int)) (y := ((m : Nat) : Int)) (tgt := 10) (by decide) (by omega) (by omega) (fun c5_ => ?_) (fun c5_ => ?_)
  · refine pb_iload_n C dJ20_inc_10 rfl (lv_at hl 0 rfl) ?_
    exact pb_iret C dJ20_inc_11 (⟨by rw [show dqP m i = i + 1 from if_pos (by omega)], rfl⟩)
  · refine pb_ic C dJ20_inc_8 ?_
    refine pb_istore_n C dJ20_inc_9 rfl hl (by decide) rfl fun ls hl => ?_
    have hl : lv_has ls 2 [(0, .int (iZ (0))), (1, .int (iZ (((m : Nat) : Int))))] := hl
    refine pb_iload_n C dJ20_inc_10 rfl (lv_at hl 0 rfl) ?_
    exact pb_iret C dJ20_inc_11 (⟨by rw [show dqP m i = 0 from if_neg (by omega)]; rfl, rfl⟩)

set_option maxHeartbeats 1000000 in
theorem met_J20_dec {w : pb_W} (l : Launch) {H : Heap} (i m : Nat) (hi : i < m) (hm : m ≤ 2000) : pb_M w l yJ20_dec cJ20_dec 2 (some .int) 0 (0) (0) [.int (iZ (((i : Nat) : Int))), .int (iZ (((m : Nat) : Int)))] H (pb_qx (.int (iZ ((dqB m i : Nat) : Int))) H) := by
  refine pb_of (by decide +kernel) (Nat.le_of_ble_eq_true rfl) ?_
  intro p_ e_ s_ m_ ar_ bl_ me_ co_ ls C hh hG hl
  have hl : lv_has ls 2 [(0, .int (iZ (((i : Nat) : Int)))), (1, .int (iZ (((m : Nat) : Int))))] := hl
  refine pb_iinc C dJ20_dec_0 hl (j := 0) (x := (((i : Nat) : Int))) rfl (by decide) rfl fun ls hl => ?_
  have hl : lv_has ls 2 [(0, .int (iZ ((((i : Nat) : Int) + (-1))))), (1, .int (iZ (((m : Nat) : Int))))] := hl
  refine pb_iload_n C dJ20_dec_3 rfl (lv_at hl 0 rfl) ?_
  refine pb_if_ge C dJ20_dec_4 (x := (((i : Nat) : Int) + (-1))) (tgt := 11) (by decide) (by omega) (fun c4_ => ?_) (fun c4_ => ?_)
  · refine pb_iload_n C dJ20_dec_11 rfl (lv_at hl 0 rfl) ?_
    exact pb_iret C dJ20_dec_12 (⟨by rw [show dqB m i = i - 1 from if_neg (by omega), show ((i - 1 : Nat) : Int) = ((i : Nat) : Int) + -1 from by omega], rfl⟩)
  · refine pb_iload_n C dJ20_dec_7 rfl (lv_at hl 1 rfl) ?_
    refine pb_ic C dJ20_dec_8 ?_
    refine pb_isub C dJ20_dec_9 ?_
    refine pb_istore_n C dJ20_dec_10 rfl hl (by decide) rfl fun ls hl => ?_
    have hl : lv_has ls 2 [(0, .int (iZ ((((m : Nat) : Int) - 1)))), (1, .int (iZ (((m : Nat) : Int))))] := hl
    refine pb_iload_n C dJ20_dec_11 rfl (lv_at hl 0 rfl) ?_
    exact pb_iret C dJ20_dec_12 (⟨by rw [show dqB m i = m - 1 from if_pos (by omega), show ((m - 1 : Nat) : Int) = ((m : Nat) : Int) - 1 from by omega], rfl⟩)

set_option maxHeartbeats 1000000 in
theorem met_J20_elementAt {w : pb_W} (l : Launch) {H : Heap} (e m i v : Nat) (f : Nat → Value) (hA : pb_B w H e 4 m f) (hi : i < m ∧ m ≤ 2000) (hv : f i = .ref v) : pb_M w l yJ20_elementAt cJ20_elementAt 2 (some (.object "java/lang/Object")) 0 (0) (0) [.ref (e), .int (iZ (((i : Nat) : Int)))] H (pb_qx (.ref v) H) := by
  refine pb_of (by decide +kernel) (Nat.le_of_ble_eq_true rfl) ?_
  intro p_ e_ s_ m_ ar_ bl_ me_ co_ ls C hh hG hl
  have hl : lv_has ls 2 [(0, .ref (e)), (1, .int (iZ (((i : Nat) : Int))))] := hl
  refine pb_aload_n C dJ20_elementAt_0 rfl (lv_at hl 0 rfl) ?_
  refine pb_iload_n C dJ20_elementAt_1 rfl (lv_at hl 1 rfl) ?_
  refine pb_aald C (t := 4) (by decide) hA (i := ((i : Nat) : Int)) (v := .ref (v)) (by omega) hv dJ20_elementAt_2 ?_
  exact pb_aret C (Or.inl ⟨_, rfl⟩) dJ20_elementAt_3 (Or.inr ⟨_, rfl⟩) (⟨rfl, rfl⟩)

set_option maxHeartbeats 1000000 in
theorem met_J20_init {w : pb_W} (l : Launch) {H0 : Heap} (z d : Nat) (hz : w.2.2.2 ≤ z) (hzd : z ≤ d) (hO : pb_O w H0 d 18 [.null, .int (iZ 0), .int (iZ 0)]) : pb_M w l yJ20_init cJ20_init 1 none 2 (1) (17) [.ref (d)] H0 (pb_qv (fun H1 => Dq w H1 z d H0.size 17 0 [] ∧ pb_F (fun q => q ≠ d) H0 H1)) := by
  refine pb_of (by decide +kernel) (Nat.le_of_ble_eq_true rfl) ?_
  intro p_ e_ s_ m_ ar_ bl_ me_ co_ ls C hh hG hl
  have hl : lv_has ls 1 [(0, .ref (d))] := hl
  have hFF : pb_F (fun q => q ≠ d) H0 H0 := pb_F.rf
  refine pb_aload_n C dJ20_init_0 rfl (lv_at hl 0 rfl) ?_
  refine pb_go_v (bc' := 1) (bs' := 17) (pb_runI (rest := []) C hG (met_J0_init l d) q1454 q110 q52 q111 rfl hdJ0_init rfl hl.1 rfl (Nat.le_of_ble_eq_true rfl) ⟨(Nat.le_of_ble_eq_true rfl), (Nat.le_of_ble_eq_true rfl)⟩ dJ20_init_1) (by omega) (by omega) (fun H_ hp_ => ?_)
  have hp8 := hp_.symm
  subst hp8
  refine pb_aload_n C dJ20_init_4 rfl (lv_at hl 0 rfl) ?_
  refine pb_bip C dJ20_init_5 (by decide) ?_
  have hz0 := hG.1
  have hlt := hO.lt
  refine pb_newqE C q1455 (n := 17) (by omega) (bc' := 0) (bs' := 0) (by omega) (by omega) dJ20_init_7 fun a1_ H1_ ha_ hn_ hN1_ => ?_
  have hs1_ : H1_.size = H0.size + 1 := hn_.1
  have hG := hG.kept (hn_.f.mono (fun _ _ _ => trivial))
  have hO := hO.kept (hn_.2 _ hO.lt)
  have hFF := hFF.tr (hn_.f.mono (fun _ _ _ => trivial))
  obtain rfl : a1_ = H0.size := by omega
  skip
  have hA := hN1_
  refine pb_put C in_J20 tyJ20 tyJ20_ok nmJ20 hO (ci := 18) rfl 0 (by decide) q1456 (fun _ h9 => h9) rfl (v := .ref (H0.size)) rfl rfl (Nat.le_of_ble_eq_true rfl) (by omega) dJ20_init_10 fun H2_ hu_ hO => ?_
  have hO : pb_O w H2_ (d) 18 [.ref (H0.size), .int (iZ (0)), .int (iZ (0))] := hO
  have hG := hG.kept (hu_.z (by omega))
  have hs_H2_ := hu_.1
  have hA := hA.kept (hu_.2 _ (by omega))
  have hFF := hFF.tr (hu_.f)
  exact pb_vret C dJ20_init_13 (⟨rfl, ⟨hzd, by omega, hO, (by rw [dqF_nil]; exact hA), by decide, Or.inl rfl, by decide⟩, hFF⟩)

set_option maxHeartbeats 1000000 in
theorem met_J20_isEmpty {w : pb_W} (l : Launch) {H0 : Heap} (z d e m h : Nat) (V : List Nat) (hz : w.2.2.2 ≤ z) (hD : Dq w H0 z d e m h V) : pb_M w l yJ20_isEmpty cJ20_isEmpty 1 (some .boolean) 0 (0) (0) [.ref (d)] H0 (pb_qx (.int (iZ (bI (decide (V.length = 0))))) H0) := by
  refine pb_of (by decide +kernel) (Nat.le_of_ble_eq_true rfl) ?_
  intro p_ e_ s_ m_ ar_ bl_ me_ co_ ls C hh hG hl
  have hl : lv_has ls 1 [(0, .ref (d))] := hl
  obtain ⟨hzd, hze, hO, hA, hhm, hM, hVm⟩ := id hD
  have hml := dqM_le hM
  have hit := dqI_lt hhm (Nat.le_of_lt hVm)
  refine pb_aload_n C dJ20_isEmpty_0 rfl (lv_at hl 0 rfl) ?_
  refine pb_get C in_J20 hO.r (ci := 18) rfl 1 (by decide) q1457 (fun _ h9 => h9) (v := .int (iZ (((h : Nat) : Int)))) rfl dJ20_isEmpty_1 ?_
  refine pb_aload_n C dJ20_isEmpty_4 rfl (lv_at hl 0 rfl) ?_
  refine pb_get C in_J20 hO.r (ci := 18) rfl 2 (by decide) q1458 (fun _ h9 => h9) (v := .int (iZ ((((dqI m h V.length) : Nat) : Int)))) rfl dJ20_isEmpty_5 ?_
  have hI9 : dqI m h V.length = h ↔ V.length = 0 := by unfold dqI; split <;> omega
  refine pb_icmp_ne C dJ20_isEmpty_8 (x := ((h : Nat) : Int)) (y := (((dqI m h V.length) : Nat) : Int)) (tgt := 15) (by decide) (by omega) (by omega) (fun c8_ => ?_) (fun c8_ => ?_)
  · refine pb_ic C dJ20_isEmpty_15 ?_
    exact pb_zret C dJ20_isEmpty_16 (by decide +kernel) (⟨by rw [bI_f (decide_eq_false (by omega))], rfl⟩)
  · refine pb_ic C dJ20_isEmpty_11 ?_
    refine pb_goto C dJ20_isEmpty_12 (tgt := 16) (by decide) ?_
    exact pb_zret C dJ20_isEmpty_16 (by decide +kernel) (⟨by rw [bI_t (decide_eq_true (by omega))], rfl⟩)

set_option maxHeartbeats 1000000 in
theorem met_J20_peekLast {w : pb_W} (l : Launch) {H0 : Heap} (z d e m h v : Nat) (V : List Nat) (hz : w.2.2.2 ≤ z) (hD : Dq w H0 z d e m h (V ++ [v])) : pb_M w l yJ20_peekLast cJ20_peekLast 2 (some (.object "java/lang/Object")) 1 (0) (0) [.ref (d)] H0 (pb_qx (.ref v) H0) := by
  refine pb_of (by decide +kernel) (Nat.le_of_ble_eq_true rfl) ?_
  intro p_ e_ s_ m_ ar_ bl_ me_ co_ ls C hh hG hl
  have hl : lv_has ls 2 [(0, .ref (d))] := hl
  obtain ⟨hzd, hze, hO, hA, hhm, hM, hVm⟩ := id hD
  have hml := dqM_le hM
  have hit := dqI_lt hhm (Nat.le_of_lt hVm)
  have hl1 : (V ++ [v]).length = V.length + 1 := by simp
  obtain ⟨hd1, hd2⟩ := dq_last hhm v hVm
  have hiv := dqI_lt hhm (show V.length ≤ m from by omega)
  refine pb_aload_n C dJ20_peekLast_0 rfl (lv_at hl 0 rfl) ?_
  refine pb_get C in_J20 hO.r (ci := 18) rfl 0 (by decide) q1456 (fun _ h9 => h9) (v := .ref (e)) rfl dJ20_peekLast_1 ?_
  refine pb_dup C dJ20_peekLast_4 rfl ?_
  refine pb_astore_n C dJ20_peekLast_5 rfl hl (by decide) rfl fun ls hl => ?_
  have hl : lv_has ls 2 [(1, .ref (e)), (0, .ref (d))] := hl
  refine pb_aload_n C dJ20_peekLast_6 rfl (lv_at hl 1 rfl) ?_
  refine pb_get C in_J20 hO.r (ci := 18) rfl 2 (by decide) q1458 (fun _ h9 => h9) (v := .int (iZ ((((dqI m h (V ++ [v]).length) : Nat) : Int)))) rfl dJ20_peekLast_7 ?_
  refine pb_aload_n C dJ20_peekLast_10 rfl (lv_at hl 0 rfl) ?_
  refine pb_alen C (t := 4) (by decide) hA.b dJ20_peekLast_11 ?_
  refine pb_go_x (bc' := 0) (bs' := 0) (pb_runS (rest := [.ref (e)]) C hG (met_J20_dec l (dqI m h (V ++ [v]).length) m hit (by omega)) (lw_S q1474 q1475 q90 q1476) hdJ20_dec rfl hl.1 rfl (Nat.le_of_ble_eq_true rfl) ⟨(Nat.le_of_ble_eq_true rfl), (Nat.le_of_ble_eq_true rfl)⟩ dJ20_peekLast_12) (by omega) (by omega) ?_
  refine pb_eq (g2 := F0 m_ 15 ls [.int (iZ ((((dqI m h V.length) : Nat) : Int))), .ref (e)]) (congrArg (fun z9 => F0 m_ 15 ls [.int (iZ z9), .ref (e)]) (show (((dqB m (dqI m h (V ++ [v]).length)) : Nat) : Int) = (((dqI m h V.length) : Nat) : Int) from (by rw [hl1, dqB_I hhm (by omega)]))) ?_
  refine pb_go_x (bc' := 0) (bs' := 0) (pb_runS (rest := []) C hG (met_J20_elementAt l e m (dqI m h V.length) v _ hA.b ⟨hiv, by omega⟩ hd1) (lw_S q1477 q1478 q90 q1479) hdJ20_elementAt rfl hl.1 rfl (Nat.le_of_ble_eq_true rfl) ⟨(Nat.le_of_ble_eq_true rfl), (Nat.le_of_ble_eq_true rfl)⟩ dJ20_peekLast_15) (by omega) (by omega) ?_
  exact pb_aret C (Or.inl ⟨_, rfl⟩) dJ20_peekLast_18 (Or.inr ⟨_, rfl⟩) (⟨rfl, rfl⟩)

set_option maxHeartbeats 1000000 in
theorem met_J20_pollLast {w : pb_W} (l : Launch) {H0 : Heap} (z d e m h v : Nat) (V : List Nat) (hz : w.2.2.2 ≤ z) (hD : Dq w H0 z d e m h (V ++ [v])) : pb_M w l yJ20_pollLast cJ20_pollLast 4 (some (.object "java/lang/Object")) 1 (0) (0) [.ref (d)] H0 (pb_qr (fun x H1 => x = v ∧ Dq w H1 z d e m h V ∧ pb_F (fun q => q ≠ d ∧ q ≠ e) H0 H1)) := by
  refine pb_of (by decide +kernel) (Nat.le_of_ble_eq_true rfl) ?_
  intro p_ e_ s_ m_ ar_ bl_ me_ co_ ls C hh hG hl
  have hl : lv_has ls 4 [(0, .ref (d))] := hl
  obtain ⟨hzd, hze, hO, hA, hhm, hM, hVm⟩ := id hD
  have hml := dqM_le hM
  have hit := dqI_lt hhm (Nat.le_of_lt hVm)
  have hl1 : (V ++ [v]).length = V.length + 1 := by simp
  obtain ⟨hd1, hd2⟩ := dq_last hhm v hVm
  have hiv := dqI_lt hhm (show V.length ≤ m from by omega)
  have hde : d ≠ e := hO.r.ty.1.ne C.inj hA.b.ty (by decide) (by decide) (by decide)
  have hFF : pb_F (fun q => q ≠ d ∧ q ≠ e) H0 H0 := pb_F.rf
  refine pb_aload_n C dJ20_pollLast_0 rfl (lv_at hl 0 rfl) ?_
  refine pb_get C in_J20 hO.r (ci := 18) rfl 0 (by decide) q1456 (fun _ h9 => h9) (v := .ref (e)) rfl dJ20_pollLast_1 ?_
  refine pb_dup C dJ20_pollLast_4 rfl ?_
  refine pb_astore_n C dJ20_pollLast_5 rfl hl (by decide) rfl fun ls hl => ?_
  have hl : lv_has ls 4 [(1, .ref (e)), (0, .ref (d))] := hl
  refine pb_aload_n C dJ20_pollLast_6 rfl (lv_at hl 1 rfl) ?_
  refine pb_get C in_J20 hO.r (ci := 18) rfl 2 (by decide) q1458 (fun _ h9 => h9) (v := .int (iZ ((((dqI m h (V ++ [v]).length) : Nat) : Int)))) rfl dJ20_pollLast_7 ?_
  refine pb_aload_n C dJ20_pollLast_10 rfl (lv_at hl 0 rfl) ?_
  refine pb_alen C (t := 4) (by decide) hA.b dJ20_pollLast_11 ?_
  refine pb_go_x (bc' := 0) (bs' := 0) (pb_runS (rest := [.ref (e)]) C hG (met_J20_dec l (dqI m h (V ++ [v]).length) m hit (by omega)) (lw_S q1474 q1475 q90 q1476) hdJ20_dec rfl hl.1 rfl (Nat.le_of_ble_eq_true rfl) ⟨(Nat.le_of_ble_eq_true rfl), (Nat.le_of_ble_eq_true rfl)⟩ dJ20_pollLast_12) (by omega) (by omega) ?_
  refine pb_eq (g2 := F0 m_ 15 ls [.int (iZ ((((dqI m h V.length) : Nat) : Int))), .ref (e)]) (congrArg (fun z9 => F0 m_ 15 ls [.int (iZ z9), .ref (e)]) (show (((dqB m (dqI m h (V ++ [v]).length)) : Nat) : Int) = (((dqI m h V.length) : Nat) : Int) from (by rw [hl1, dqB_I hhm (by omega)]))) ?_
  refine pb_dup C dJ20_pollLast_15 rfl ?_
  refine pb_istore_n C dJ20_pollLast_16 rfl hl (by decide) rfl fun ls hl => ?_
  have hl : lv_has ls 4 [(2, .int (iZ ((((dqI m h V.length) : Nat) : Int)))), (1, .ref (e)), (0, .ref (d))] := hl
  refine pb_go_x (bc' := 0) (bs' := 0) (pb_runS (rest := []) C hG (met_J20_elementAt l e m (dqI m h V.length) v _ hA.b ⟨hiv, by omega⟩ hd1) (lw_S q1477 q1478 q90 q1479) hdJ20_elementAt rfl hl.1 rfl (Nat.le_of_ble_eq_true rfl) ⟨(Nat.le_of_ble_eq_true rfl), (Nat.le_of_ble_eq_true rfl)⟩ dJ20_pollLast_17) (by omega) (by omega) ?_
  refine pb_astore_n C dJ20_pollLast_20 rfl hl (by decide) rfl fun ls hl => ?_
  have hl : lv_has ls 4 [(3, .ref (v)), (2, .int (iZ ((((dqI m h V.length) : Nat) : Int)))), (1, .ref (e)), (0, .ref (d))] := hl
  refine pb_aload_n C dJ20_pollLast_21 rfl (lv_at hl 0 rfl) ?_
  refine pb_ifnull C dJ20_pollLast_22 ?_
  refine pb_aload_n C dJ20_pollLast_25 rfl (lv_at hl 2 rfl) ?_
  refine pb_aload_n C dJ20_pollLast_26 rfl (lv_at hl 3 rfl) ?_
  refine pb_iload_n C dJ20_pollLast_27 rfl (lv_at hl 1 rfl) ?_
  refine pb_dup_x1 C dJ20_pollLast_28 rfl rfl ?_
  refine pb_put C in_J20 tyJ20 tyJ20_ok nmJ20 hO (ci := 18) rfl 2 (by decide) q1458 (fun _ h9 => h9) rfl (v := .int (iZ ((((dqI m h V.length) : Nat) : Int)))) rfl rfl (Nat.le_of_ble_eq_true rfl) (by omega) dJ20_pollLast_29 fun H1_ hu_ hO => ?_
  have hO : pb_O w H1_ (d) 18 [.ref (e), .int (iZ (((h : Nat) : Int))), .int (iZ ((((dqI m h V.length) : Nat) : Int)))] := hO
  have hG := hG.kept (hu_.z (by omega))
  have hs_H1_ := hu_.1
  have hA := hA.kept (hu_.2 _ (by omega))
  have hFF := hFF.tr (hu_.f.mono (fun q _ hq => hq.1))
  refine pb_anull C dJ20_pollLast_32 ?_
  refine pb_aastN C hA (i := (((dqI m h V.length) : Nat) : Int)) (by omega) (by omega) dJ20_pollLast_33 fun H2_ hu_ hA => ?_
  rw [Int.toNat_natCast, hd2] at hA
  have hG := hG.kept (hu_.z (by omega))
  have hs_H2_ := hu_.1
  have hO := hO.kept (hu_.2 _ (by omega))
  have hFF := hFF.tr (hu_.f.mono (fun q _ hq => hq.2))
  refine pb_aload_n C dJ20_pollLast_34 rfl (lv_at hl 0 rfl) ?_
  exact pb_aret C (Or.inl ⟨_, rfl⟩) dJ20_pollLast_35 (Or.inr ⟨_, rfl⟩) (⟨_, rfl, rfl, ⟨hzd, hze, hO, hA, hhm, hM, by omega⟩, hFF⟩)

set_option maxHeartbeats 1000000 in
theorem met_J20_removeLast {w : pb_W} (l : Launch) {H0 : Heap} (z d e m h v : Nat) (V : List Nat) (hz : w.2.2.2 ≤ z) (hD : Dq w H0 z d e m h (V ++ [v])) : pb_M w l yJ20_removeLast cJ20_removeLast 2 (some (.object "java/lang/Object")) 2 (0) (0) [.ref (d)] H0 (pb_qr (fun x H1 => x = v ∧ Dq w H1 z d e m h V ∧ pb_F (fun q => q ≠ d ∧ q ≠ e) H0 H1)) := by
  refine pb_of (by decide +kernel) (Nat.le_of_ble_eq_true rfl) ?_
  intro p_ e_ s_ m_ ar_ bl_ me_ co_ ls C hh hG hl
  have hl : lv_has ls 2 [(0, .ref (d))] := hl
  obtain ⟨fsD_, hDo⟩ := hD.o
  refine pb_aload_n C dJ20_removeLast_0 rfl (lv_at hl 0 rfl) ?_
  refine pb_go_r (bc' := 0) (bs' := 0) (pb_runV (rest := []) C hG (met_J20_pollLast l z d e m h v V hz hD) hDo (ci := 18) rfl (lw_V q1489 q1490 q1491 q90 q1492) ⟨rfl, hdJ20_pollLast⟩ rfl hl.1 rfl (Nat.le_of_ble_eq_true rfl) ⟨(Nat.le_of_ble_eq_true rfl), (Nat.le_of_ble_eq_true rfl)⟩ dJ20_removeLast_1) (by omega) (by omega) (fun a_ H_ hp_ => ?_)
  obtain ⟨rfl, hD, hFF⟩ := hp_
  refine pb_astore_n C dJ20_removeLast_4 rfl hl (by decide) rfl fun ls hl => ?_
  have hl : lv_has ls 2 [(1, .ref (a_)), (0, .ref (d))] := hl
  refine pb_aload_n C dJ20_removeLast_5 rfl (lv_at hl 0 rfl) ?_
  refine pb_ifnonnull C dJ20_removeLast_6 (tgt := 17) (by decide) ?_
  refine pb_aload_n C dJ20_removeLast_17 rfl (lv_at hl 0 rfl) ?_
  exact pb_aret C (Or.inl ⟨_, rfl⟩) dJ20_removeLast_18 (Or.inr ⟨_, rfl⟩) (⟨_, rfl, rfl, hD, hFF⟩)

set_option maxHeartbeats 1000000 in
theorem met_J20_pollFirst {w : pb_W} (l : Launch) {H0 : Heap} (z d e m h v : Nat) (V : List Nat) (hz : w.2.2.2 ≤ z) (hD : Dq w H0 z d e m h (v :: V)) : pb_M w l yJ20_pollFirst cJ20_pollFirst 4 (some (.object "java/lang/Object")) 1 (0) (0) [.ref (d)] H0 (pb_qr (fun x H1 => x = v ∧ Dq w H1 z d e m (dqP m h) V ∧ pb_F (fun q => q ≠ d ∧ q ≠ e) H0 H1)) := by
  refine pb_of (by decide +kernel) (Nat.le_of_ble_eq_true rfl) ?_
  intro p_ e_ s_ m_ ar_ bl_ me_ co_ ls C hh hG hl
  have hl : lv_has ls 4 [(0, .ref (d))] := hl
  obtain ⟨hzd, hze, hO, hA, hhm, hM, hVm⟩ := id hD
  have hml := dqM_le hM
  have hit := dqI_lt hhm (Nat.le_of_lt hVm)
  have hl1 : (v :: V).length = V.length + 1 := by simp
  obtain ⟨hd1, hd2, hd3⟩ := dq_first hhm v hVm
  have hP9 := dqP_lt hhm
  have hde : d ≠ e := hO.r.ty.1.ne C.inj hA.b.ty (by decide) (by decide) (by decide)
  have hFF : pb_F (fun q => q ≠ d ∧ q ≠ e) H0 H0 := pb_F.rf
  refine pb_aload_n C dJ20_pollFirst_0 rfl (lv_at hl 0 rfl) ?_
  refine pb_get C in_J20 hO.r (ci := 18) rfl 0 (by decide) q1456 (fun _ h9 => h9) (v := .ref (e)) rfl dJ20_pollFirst_1 ?_
  refine pb_dup C dJ20_pollFirst_4 rfl ?_
  refine pb_astore_n C dJ20_pollFirst_5 rfl hl (by decide) rfl fun ls hl => ?_
  have hl : lv_has ls 4 [(1, .ref (e)), (0, .ref (d))] := hl
  refine pb_aload_n C dJ20_pollFirst_6 rfl (lv_at hl 1 rfl) ?_
  refine pb_get C in_J20 hO.r (ci := 18) rfl 1 (by decide) q1457 (fun _ h9 => h9) (v := .int (iZ (((h : Nat) : Int)))) rfl dJ20_pollFirst_7 ?_
  refine pb_dup C dJ20_pollFirst_10 rfl ?_
  refine pb_istore_n C dJ20_pollFirst_11 rfl hl (by decide) rfl fun ls hl => ?_
  have hl : lv_has ls 4 [(2, .int (iZ (((h : Nat) : Int)))), (1, .ref (e)), (0, .ref (d))] := hl
  refine pb_go_x (bc' := 0) (bs' := 0) (pb_runS (rest := []) C hG (met_J20_elementAt l e m h v _ hA.b ⟨hhm, by omega⟩ hd1) (lw_S q1477 q1478 q90 q1479) hdJ20_elementAt rfl hl.1 rfl (Nat.le_of_ble_eq_true rfl) ⟨(Nat.le_of_ble_eq_true rfl), (Nat.le_of_ble_eq_true rfl)⟩ dJ20_pollFirst_12) (by omega) (by omega) ?_
  refine pb_astore_n C dJ20_pollFirst_15 rfl hl (by decide) rfl fun ls hl => ?_
  have hl : lv_has ls 4 [(3, .ref (v)), (2, .int (iZ (((h : Nat) : Int)))), (1, .ref (e)), (0, .ref (d))] := hl
  refine pb_aload_n C dJ20_pollFirst_16 rfl (lv_at hl 0 rfl) ?_
  refine pb_ifnull C dJ20_pollFirst_17 ?_
  refine pb_aload_n C dJ20_pollFirst_20 rfl (lv_at hl 2 rfl) ?_
  refine pb_iload_n C dJ20_pollFirst_21 rfl (lv_at hl 1 rfl) ?_
  refine pb_anull C dJ20_pollFirst_22 ?_
  refine pb_aastN C hA (i := ((h : Nat) : Int)) (by omega) (by omega) dJ20_pollFirst_23 fun H1_ hu_ hA => ?_
  rw [Int.toNat_natCast, hd2] at hA
  have hG := hG.kept (hu_.z (by omega))
  have hs_H1_ := hu_.1
  have hO := hO.kept (hu_.2 _ (by omega))
  have hFF := hFF.tr (hu_.f.mono (fun q _ hq => hq.2))
  refine pb_aload_n C dJ20_pollFirst_24 rfl (lv_at hl 3 rfl) ?_
  refine pb_iload_n C dJ20_pollFirst_25 rfl (lv_at hl 1 rfl) ?_
  refine pb_aload_n C dJ20_pollFirst_26 rfl (lv_at hl 2 rfl) ?_
  refine pb_alen C (t := 4) (by decide) hA.b dJ20_pollFirst_27 ?_
  refine pb_go_x (bc' := 0) (bs' := 0) (pb_runS (rest := [.ref (d)]) C hG (met_J20_inc l h m hhm (by omega)) (lw_S q1501 q1502 q90 q1503) hdJ20_inc rfl hl.1 rfl (Nat.le_of_ble_eq_true rfl) ⟨(Nat.le_of_ble_eq_true rfl), (Nat.le_of_ble_eq_true rfl)⟩ dJ20_pollFirst_28) (by omega) (by omega) ?_
  refine pb_put C in_J20 tyJ20 tyJ20_ok nmJ20 hO (ci := 18) rfl 1 (by decide) q1457 (fun _ h9 => h9) rfl (v := .int (iZ ((((dqP m h) : Nat) : Int)))) rfl rfl (Nat.le_of_ble_eq_true rfl) (by omega) dJ20_pollFirst_31 fun H2_ hu_ hO => ?_
  have hO : pb_O w H2_ (d) 18 [.ref (e), .int (iZ ((((dqP m h) : Nat) : Int))), .int (iZ ((((dqI m h (v :: V).length) : Nat) : Int)))] := hO
  have hG := hG.kept (hu_.z (by omega))
  have hs_H2_ := hu_.1
  have hA := hA.kept (hu_.2 _ (by omega))
  have hFF := hFF.tr (hu_.f.mono (fun q _ hq => hq.1))
  refine pb_aload_n C dJ20_pollFirst_34 rfl (lv_at hl 0 rfl) ?_
  exact pb_aret C (Or.inl ⟨_, rfl⟩) dJ20_pollFirst_35 (Or.inr ⟨_, rfl⟩) (⟨_, rfl, rfl, ⟨hzd, hze, (by rw [← hd3]; exact hO), hA, hP9, hM, by omega⟩, hFF⟩)

set_option maxHeartbeats 1000000 in
theorem met_J20_removeFirst {w : pb_W} (l : Launch) {H0 : Heap} (z d e m h v : Nat) (V : List Nat) (hz : w.2.2.2 ≤ z) (hD : Dq w H0 z d e m h (v :: V)) : pb_M w l yJ20_removeFirst cJ20_removeFirst 2 (some (.object "java/lang/Object")) 2 (0) (0) [.ref (d)] H0 (pb_qr (fun x H1 => x = v ∧ Dq w H1 z d e m (dqP m h) V ∧ pb_F (fun q => q ≠ d ∧ q ≠ e) H0 H1)) := by
  refine pb_of (by decide +kernel) (Nat.le_of_ble_eq_true rfl) ?_
  intro p_ e_ s_ m_ ar_ bl_ me_ co_ ls C hh hG hl
  have hl : lv_has ls 2 [(0, .ref (d))] := hl
  obtain ⟨fsD_, hDo⟩ := hD.o
  refine pb_aload_n C dJ20_removeFirst_0 rfl (lv_at hl 0 rfl) ?_
  refine pb_go_r (bc' := 0) (bs' := 0) (pb_runV (rest := []) C hG (met_J20_pollFirst l z d e m h v V hz hD) hDo (ci := 18) rfl (lw_V q1564 q1565 q1566 q90 q1567) ⟨rfl, hdJ20_pollFirst⟩ rfl hl.1 rfl (Nat.le_of_ble_eq_true rfl) ⟨(Nat.le_of_ble_eq_true rfl), (Nat.le_of_ble_eq_true rfl)⟩ dJ20_removeFirst_1) (by omega) (by omega) (fun a_ H_ hp_ => ?_)
  obtain ⟨rfl, hD, hFF⟩ := hp_
  refine pb_astore_n C dJ20_removeFirst_4 rfl hl (by decide) rfl fun ls hl => ?_
  have hl : lv_has ls 2 [(1, .ref (a_)), (0, .ref (d))] := hl
  refine pb_aload_n C dJ20_removeFirst_5 rfl (lv_at hl 0 rfl) ?_
  refine pb_ifnonnull C dJ20_removeFirst_6 (tgt := 17) (by decide) ?_
  refine pb_aload_n C dJ20_removeFirst_17 rfl (lv_at hl 0 rfl) ?_
  exact pb_aret C (Or.inl ⟨_, rfl⟩) dJ20_removeFirst_18 (Or.inr ⟨_, rfl⟩) (⟨_, rfl, rfl, hD, hFF⟩)

set_option maxHeartbeats 1000000 in
theorem met_J20_grow {w : pb_W} (l : Launch) {H0 : Heap} (d e m h : Nat) (V : List Nat) (hz : w.2.2.2 ≤ d) (hO : pb_O w H0 d 18 [.ref e, .int (iZ ((h : Nat) : Int)), .int (iZ ((h : Nat) : Int))]) (hA : pb_A w H0 e 4 m (dqF m h V)) (hhm : h < m) (hml : 17 ≤ m ∧ m ≤ 838) (hVm : V.length = m) (hel : ∀ x ∈ V, pb_El w H0 x ∧ x ≠ d) : pb_M w l yJ20_grow cJ20_grow 9 none 3 (1) (dqn m) [.ref (d), .int (iZ (1))] H0 (pb_qv (fun H1 => pb_O w H1 d 18 [.ref H0.size, .int (iZ (((h + (dqn m - m)) : Nat) : Int)), .int (iZ ((h : Nat) : Int))] ∧ pb_A w H1 H0.size 4 (dqn m) (dqF (dqn m) (h + (dqn m - m)) V) ∧ pb_F (fun q => q ≠ d) H0 H1)) := by
  refine pb_of (by decide +kernel) (Nat.le_of_ble_eq_true rfl) ?_
  intro p_ e_ s_ m_ ar_ bl_ me_ co_ ls C hh hG hl
  have hl : lv_has ls 9 [(0, .ref (d)), (1, .int (iZ (1)))] := hl
  have hz0 := hG.1
  have hlt := hO.lt
  have hde : d ≠ e := hO.r.ty.1.ne C.inj hA.b.ty (by decide) (by decide) (by decide)
  have L21 :  ∀ (ls : Array Slot), lv_has ls 9 [(0, .ref (d)), (1, .int (iZ (1))), (2, .int (iZ (((m : Nat) : Int))))] → pb_V w.2.2.2 p_ l e_ (pb_rm 3 (1) (dqn m)) s_ m_ ar_ bl_ me_ co_ H0 (1) (dqn m) (pb_E w bl_ ar_ s_ (1) (dqn m) (pb_qv (fun H1 => pb_O w H1 d 18 [.ref H0.size, .int (iZ (((h + (dqn m - m)) : Nat) : Int)), .int (iZ ((h : Nat) : Int))] ∧ pb_A w H1 H0.size 4 (dqn m) (dqF (dqn m) (h + (dqn m - m)) V) ∧ pb_F (fun q => q ≠ d) H0 H1))) (F0 m_ 21 ls [.int (iZ ((((dqj m) : Nat) : Int)))]) := by
    intro   ls hl
    have hjl : m + dqj m = dqn m ∧ 1 ≤ dqj m ∧ dqj m ≤ 900 := ⟨rfl, by unfold dqj; split <;> omega, by unfold dqj; split <;> omega⟩
    obtain ⟨hjl1, hjl2, hjl3⟩ := hjl
    have L145 : ∀ (n_ : Nat) (k : Nat) (H : Heap), (h + (dqn m - m)) - k = n_ → (pb_G w s_ H) → (h ≤ k ∧ k ≤ (h + (dqn m - m))) → (pb_O w H d 18 [.ref H0.size, .int (iZ (((h + (dqn m - m)) : Nat) : Int)), .int (iZ ((h : Nat) : Int))]) → (pb_A w H H0.size 4 (dqn m) (dqG m h V k)) → (pb_F (fun q => q ≠ d) H0 H) → ∀ (ls : Array Slot), lv_has ls 9 [(5, .ref (H0.size)), (7, .int (iZ (((k : Nat) : Int)))), (8, .int (iZ ((((h + (dqn m - m)) : Nat) : Int))))] → pb_V w.2.2.2 p_ l e_ (pb_rm 3 (1) (dqn m)) s_ m_ ar_ bl_ me_ co_ H (0) (0) (pb_E w bl_ ar_ s_ (1) (dqn m) (pb_qv (fun H1 => pb_O w H1 d 18 [.ref H0.size, .int (iZ (((h + (dqn m - m)) : Nat) : Int)), .int (iZ ((h : Nat) : Int))] ∧ pb_A w H1 H0.size 4 (dqn m) (dqF (dqn m) (h + (dqn m - m)) V) ∧ pb_F (fun q => q ≠ d) H0 H1))) (F0 m_ 145 ls []) := by
      intro n_
      induction n_ using Nat.strongRecOn with
      | _ n_ ih145 =>
      intro k H hm_ hG hk hO hN hFF ls hl
      refine pb_iload C dJ20_grow_145 (lv_at hl 1 rfl) ?_
      refine pb_iload C dJ20_grow_147 (lv_at hl 2 rfl) ?_
      refine pb_icmp_ge C dJ20_grow_149 (x := ((k : Nat) : Int)) (y := (((h + (dqn m - m)) : Nat) : Int)) (tgt := 164) (by decide) (by omega) (by omega) (fun c149_ => ?_) (fun c149_ => ?_)
      · exact pb_vret C dJ20_grow_164 (⟨rfl, hO, (by rw [← dqG_end hhm hVm, show h + (dqn m - m) = k from by omega]; exact hN), hFF⟩)
      · refine pb_aload C dJ20_grow_152 (lv_at hl 0 rfl) ?_
        refine pb_iload C dJ20_grow_154 (lv_at hl 1 rfl) ?_
        refine pb_anull C dJ20_grow_156 ?_
        refine pb_aastN C hN (i := ((k : Nat) : Int)) (by omega) (by omega) dJ20_grow_157 fun H1_ hu_ hN => ?_
        rw [Int.toNat_natCast, dqG_step V hk.1] at hN
        have hG := hG.kept (hu_.z (by omega))
        have hs_H1_ := hu_.1
        have hFF : pb_F (fun q => q ≠ d) H0 H1_ := ⟨by have := hFF.1; have := hu_.1; omega, fun q hq hp => (hu_.2 q (by omega)).trans (hFF.2 q hq hp)⟩
        refine pb_iinc C dJ20_grow_158 hl (j := 1) (x := (((k : Nat) : Int))) rfl (by decide) rfl fun ls hl => ?_
        have hl : lv_has ls 9 [(7, .int (iZ ((((k + 1) : Nat) : Int)))), (5, .ref (H0.size)), (8, .int (iZ ((((h + (dqn m - m)) : Nat) : Int))))] := hl
        refine pb_goto C dJ20_grow_161 (tgt := 145) (by decide) ?_
        exact pb_V.mono (by omega) (by omega) (ih145 _ (by omega) (k + 1) H1_ rfl hG (by omega) (hO.kept (hu_.2 _ (by omega))) hN hFF ls (lv_sub hl [1, 0, 2] rfl))
    refine pb_istore C dJ20_grow_21 hl (by decide) rfl fun ls hl => ?_
    have hl : lv_has ls 9 [(4, .int (iZ ((((dqj m) : Nat) : Int)))), (0, .ref (d)), (1, .int (iZ (1))), (2, .int (iZ (((m : Nat) : Int))))] := hl
    refine pb_iload C dJ20_grow_23 (lv_at hl 0 rfl) ?_
    refine pb_iload_n C dJ20_grow_25 rfl (lv_at hl 2 rfl) ?_
    refine pb_icmp_lt C dJ20_grow_26 (x := (((dqj m) : Nat) : Int)) (y := 1) (tgt := 41) (by decide) (by omega) (by omega) (fun c26_ => ?_) (fun c26_ => ?_)
    · omega
    · refine pb_iload_n C dJ20_grow_29 rfl (lv_at hl 3 rfl) ?_
      refine pb_iload C dJ20_grow_30 (lv_at hl 0 rfl) ?_
      refine pb_iadd C dJ20_grow_32 ?_
      refine pb_eq (g2 := F0 m_ 33 ls [.int (iZ ((((dqn m) : Nat) : Int)))]) (congrArg (fun z9 => F0 m_ 33 ls [.int (iZ z9)]) (show (((m + (dqj m)) : Nat) : Int) = (((dqn m) : Nat) : Int) from (by omega))) ?_
      refine pb_dup C dJ20_grow_33 rfl ?_
      refine pb_istore_n C dJ20_grow_34 rfl hl (by decide) rfl fun ls hl => ?_
      have hl : lv_has ls 9 [(3, .int (iZ ((((dqn m) : Nat) : Int)))), (4, .int (iZ ((((dqj m) : Nat) : Int)))), (0, .ref (d)), (1, .int (iZ (1))), (2, .int (iZ (((m : Nat) : Int))))] := hl
      refine pb_ldc C dJ20_grow_35 q1508 (2147483639) (by decide +kernel) ?_
      refine pb_isub C dJ20_grow_37 ?_
      refine pb_if_le C dJ20_grow_38 (x := ((((dqn m) : Nat) : Int) - 2147483639)) (tgt := 49) (by decide) (by omega) (fun c38_ => ?_) (fun c38_ => ?_)
      · refine pb_aload_n C dJ20_grow_49 rfl (lv_at hl 2 rfl) ?_
        refine pb_aload_n C dJ20_grow_50 rfl (lv_at hl 2 rfl) ?_
        refine pb_get C in_J20 hO.r (ci := 18) rfl 0 (by decide) q1456 (fun _ h9 => h9) (v := .ref (e)) rfl dJ20_grow_51 ?_
        refine pb_iload_n C dJ20_grow_54 rfl (lv_at hl 0 rfl) ?_
        refine pb_go_r (bc' := 0) (bs' := dqn m - (dqn m)) (pb_runS (rest := [.ref (d)]) C hG (met_J5_copyOf l e m (dqn m) (dqF m h V) hA (by omega) (dqF_el (fun x hx => (hel x hx).1) m h)) (lw_S q1520 q178 q58 q179) hdJ5_copyOf rfl hl.1 rfl (Nat.le_of_ble_eq_true rfl) ⟨(Nat.le_of_ble_eq_true rfl), (Nat.le_of_ble_eq_true rfl)⟩ dJ20_grow_55) (by omega) (by omega) (fun a_ H_ hp_ => ?_)
        obtain ⟨rfl, hN, hF1⟩ := hp_
        have hG := hG.kept (hF1.mono (fun _ _ _ => trivial))
        have hO := hO.kept (hF1.2 _ hO.lt trivial)
        have hN9 := hN.lt
        have hdl := hF1.1
        have hFF : pb_F (fun q => q ≠ d) H0 H_ := hF1.mono (fun _ _ _ => trivial)
        have hV0 : 0 < V.length := by omega
        have hel1 : ∀ x ∈ V, pb_El w H_ x := fun x hx => (hel x hx).1.kept (hF1.2 _ (hel x hx).1.lt trivial)
        refine pb_dup_x1 C dJ20_grow_58 rfl rfl ?_
        refine pb_put C in_J20 tyJ20 tyJ20_ok nmJ20 hO (ci := 18) rfl 0 (by decide) q1456 (fun _ h9 => h9) rfl (v := .ref (H0.size)) rfl rfl (Nat.le_of_ble_eq_true rfl) (by omega) dJ20_grow_59 fun H2_ hu_ hO => ?_
        have hO : pb_O w H2_ (d) 18 [.ref (H0.size), .int (iZ (((h : Nat) : Int))), .int (iZ (((h : Nat) : Int)))] := hO
        have hG := hG.kept (hu_.z (by omega))
        have hs_H2_ := hu_.1
        have hN := hN.kept (hu_.2 _ (by omega))
        have hFF : pb_F (fun q => q ≠ d) H0 H2_ := ⟨by have := hFF.1; have := hu_.1; omega, fun q hq hp => (hu_.2 q hp).trans (hFF.2 q hq hp)⟩
        have hel1 := fun (x : Nat) (hx : x ∈ V) => (hel1 x hx).kept (hu_.2 _ (hel x hx).2)
        refine pb_astore C dJ20_grow_62 hl (by decide) rfl fun ls hl => ?_
        have hl : lv_has ls 9 [(5, .ref (H0.size)), (3, .int (iZ ((((dqn m) : Nat) : Int)))), (4, .int (iZ ((((dqj m) : Nat) : Int)))), (0, .ref (d)), (1, .int (iZ (1))), (2, .int (iZ (((m : Nat) : Int))))] := hl
        refine pb_aload_n C dJ20_grow_64 rfl (lv_at hl 3 rfl) ?_
        refine pb_get C in_J20 hO.r (ci := 18) rfl 2 (by decide) q1458 (fun _ h9 => h9) (v := .int (iZ (((h : Nat) : Int)))) rfl dJ20_grow_65 ?_
        refine pb_aload_n C dJ20_grow_68 rfl (lv_at hl 3 rfl) ?_
        refine pb_get C in_J20 hO.r (ci := 18) rfl 1 (by decide) q1457 (fun _ h9 => h9) (v := .int (iZ (((h : Nat) : Int)))) rfl dJ20_grow_69 ?_
        refine pb_icmp_lt C dJ20_grow_72 (x := ((h : Nat) : Int)) (y := ((h : Nat) : Int)) (tgt := 96) (by decide) (by omega) (by omega) (fun c72_ => ?_) (fun c72_ => ?_)
        · omega
        · refine pb_aload_n C dJ20_grow_75 rfl (lv_at hl 3 rfl) ?_
          refine pb_get C in_J20 hO.r (ci := 18) rfl 2 (by decide) q1458 (fun _ h9 => h9) (v := .int (iZ (((h : Nat) : Int)))) rfl dJ20_grow_76 ?_
          refine pb_aload_n C dJ20_grow_79 rfl (lv_at hl 3 rfl) ?_
          refine pb_get C in_J20 hO.r (ci := 18) rfl 1 (by decide) q1457 (fun _ h9 => h9) (v := .int (iZ (((h : Nat) : Int)))) rfl dJ20_grow_80 ?_
          refine pb_icmp_ne C dJ20_grow_83 (x := ((h : Nat) : Int)) (y := ((h : Nat) : Int)) (tgt := 164) (by decide) (by omega) (by omega) (fun c83_ => ?_) (fun c83_ => ?_)
          · omega
          · refine pb_aload C dJ20_grow_86 (lv_at hl 0 rfl) ?_
            refine pb_aload_n C dJ20_grow_88 rfl (lv_at hl 3 rfl) ?_
            refine pb_get C in_J20 hO.r (ci := 18) rfl 1 (by decide) q1457 (fun _ h9 => h9) (v := .int (iZ (((h : Nat) : Int)))) rfl dJ20_grow_89 ?_
            refine pb_aald C (t := 4) (by decide) hN.b (i := ((h : Nat) : Int)) (v := .ref ((nV V 0))) (by omega) (by rw [Int.toNat_natCast]; exact dqG_first hhm hVm) dJ20_grow_92 ?_
            refine pb_ifnull C dJ20_grow_93 ?_
            refine pb_iload_n C dJ20_grow_96 rfl (lv_at hl 1 rfl) ?_
            refine pb_iload_n C dJ20_grow_97 rfl (lv_at hl 5 rfl) ?_
            refine pb_isub C dJ20_grow_98 ?_
            refine pb_eq (g2 := F0 m_ 99 ls [.int (iZ ((((dqn m - m) : Nat) : Int)))]) (congrArg (fun z9 => F0 m_ 99 ls [.int (iZ z9)]) (show ((((dqn m) : Nat) : Int) - ((m : Nat) : Int)) = (((dqn m - m) : Nat) : Int) from (by omega))) ?_
            refine pb_istore C dJ20_grow_99 hl (by decide) rfl fun ls hl => ?_
            have hl : lv_has ls 9 [(6, .int (iZ ((((dqn m - m) : Nat) : Int)))), (5, .ref (H0.size)), (3, .int (iZ ((((dqn m) : Nat) : Int)))), (4, .int (iZ ((((dqj m) : Nat) : Int)))), (0, .ref (d)), (1, .int (iZ (1))), (2, .int (iZ (((m : Nat) : Int))))] := hl
            refine pb_aload C dJ20_grow_101 (lv_at hl 1 rfl) ?_
            refine pb_aload_n C dJ20_grow_103 rfl (lv_at hl 4 rfl) ?_
            refine pb_get C in_J20 hO.r (ci := 18) rfl 1 (by decide) q1457 (fun _ h9 => h9) (v := .int (iZ (((h : Nat) : Int)))) rfl dJ20_grow_104 ?_
            refine pb_aload C dJ20_grow_107 (lv_at hl 1 rfl) ?_
            refine pb_aload_n C dJ20_grow_109 rfl (lv_at hl 4 rfl) ?_
            refine pb_get C in_J20 hO.r (ci := 18) rfl 1 (by decide) q1457 (fun _ h9 => h9) (v := .int (iZ (((h : Nat) : Int)))) rfl dJ20_grow_110 ?_
            refine pb_iload C dJ20_grow_113 (lv_at hl 0 rfl) ?_
            refine pb_iadd C dJ20_grow_115 ?_
            refine pb_eq (g2 := F0 m_ 116 ls [.int (iZ ((((h + (dqn m - m)) : Nat) : Int))), .ref (H0.size), .int (iZ (((h : Nat) : Int))), .ref (H0.size)]) (congrArg (fun z9 => F0 m_ 116 ls [.int (iZ z9), .ref (H0.size), .int (iZ (((h : Nat) : Int))), .ref (H0.size)]) (show (((h + (dqn m - m)) : Nat) : Int) = (((h + (dqn m - m)) : Nat) : Int) from (by omega))) ?_
            refine pb_iload_n C dJ20_grow_116 rfl (lv_at hl 6 rfl) ?_
            refine pb_aload_n C dJ20_grow_117 rfl (lv_at hl 4 rfl) ?_
            refine pb_get C in_J20 hO.r (ci := 18) rfl 1 (by decide) q1457 (fun _ h9 => h9) (v := .int (iZ (((h : Nat) : Int)))) rfl dJ20_grow_118 ?_
            refine pb_isub C dJ20_grow_121 ?_
            refine pb_eq (g2 := F0 m_ 122 ls [.int (iZ ((((m - h) : Nat) : Int))), .int (iZ ((((h + (dqn m - m)) : Nat) : Int))), .ref (H0.size), .int (iZ (((h : Nat) : Int))), .ref (H0.size)]) (congrArg (fun z9 => F0 m_ 122 ls [.int (iZ z9), .int (iZ ((((h + (dqn m - m)) : Nat) : Int))), .ref (H0.size), .int (iZ (((h : Nat) : Int))), .ref (H0.size)]) (show (((m : Nat) : Int) - ((h : Nat) : Int)) = (((m - h) : Nat) : Int) from (by omega))) ?_
            refine pb_copy C hN hN (sp := ((h : Nat) : Int)) (dp := (((h + (dqn m - m)) : Nat) : Int)) (n := (((m - h) : Nat) : Int)) (by omega) (fun i _ => dqC_el (dqF_el hel1 m h) _ _) (by omega) q1521 hl.1 ⟨(Nat.le_of_ble_eq_true rfl), (Nat.le_of_ble_eq_true rfl)⟩ dJ20_grow_122 fun H3_ hu_ hN => ?_
            rw [Int.toNat_natCast, Int.toNat_natCast, Int.toNat_natCast, ← dqG_0] at hN
            have hG := hG.kept (hu_.z (by omega))
            have hs_H3_ := hu_.1
            have hO := hO.kept (hu_.2 _ (by omega))
            have hFF : pb_F (fun q => q ≠ d) H0 H3_ := ⟨by have := hFF.1; have := hu_.1; omega, fun q hq hp => (hu_.2 q (by omega)).trans (hFF.2 q hq hp)⟩
            refine pb_aload_n C dJ20_grow_125 rfl (lv_at hl 4 rfl) ?_
            refine pb_get C in_J20 hO.r (ci := 18) rfl 1 (by decide) q1457 (fun _ h9 => h9) (v := .int (iZ (((h : Nat) : Int)))) rfl dJ20_grow_126 ?_
            refine pb_istore C dJ20_grow_129 hl (by decide) rfl fun ls hl => ?_
            have hl : lv_has ls 9 [(7, .int (iZ (((h : Nat) : Int)))), (6, .int (iZ ((((dqn m - m) : Nat) : Int)))), (5, .ref (H0.size)), (3, .int (iZ ((((dqn m) : Nat) : Int)))), (4, .int (iZ ((((dqj m) : Nat) : Int)))), (0, .ref (d)), (1, .int (iZ (1))), (2, .int (iZ (((m : Nat) : Int))))] := hl
            refine pb_aload_n C dJ20_grow_131 rfl (lv_at hl 5 rfl) ?_
            refine pb_dup C dJ20_grow_132 rfl ?_
            refine pb_get C in_J20 hO.r (ci := 18) rfl 1 (by decide) q1457 (fun _ h9 => h9) (v := .int (iZ (((h : Nat) : Int)))) rfl dJ20_grow_133 ?_
            refine pb_iload C dJ20_grow_136 (lv_at hl 1 rfl) ?_
            refine pb_iadd C dJ20_grow_138 ?_
            refine pb_eq (g2 := F0 m_ 139 ls [.int (iZ ((((h + (dqn m - m)) : Nat) : Int))), .ref (d)]) (congrArg (fun z9 => F0 m_ 139 ls [.int (iZ z9), .ref (d)]) (show (((h + (dqn m - m)) : Nat) : Int) = (((h + (dqn m - m)) : Nat) : Int) from (by omega))) ?_
            refine pb_dup_x1 C dJ20_grow_139 rfl rfl ?_
            refine pb_put C in_J20 tyJ20 tyJ20_ok nmJ20 hO (ci := 18) rfl 1 (by decide) q1457 (fun _ h9 => h9) rfl (v := .int (iZ ((((h + (dqn m - m)) : Nat) : Int)))) rfl rfl (Nat.le_of_ble_eq_true rfl) (by omega) dJ20_grow_140 fun H4_ hu_ hO => ?_
            have hO : pb_O w H4_ (d) 18 [.ref (H0.size), .int (iZ ((((h + (dqn m - m)) : Nat) : Int))), .int (iZ (((h : Nat) : Int)))] := hO
            have hG := hG.kept (hu_.z (by omega))
            have hs_H4_ := hu_.1
            have hN := hN.kept (hu_.2 _ (by omega))
            have hFF : pb_F (fun q => q ≠ d) H0 H4_ := ⟨by have := hFF.1; have := hu_.1; omega, fun q hq hp => (hu_.2 q hp).trans (hFF.2 q hq hp)⟩
            refine pb_istore C dJ20_grow_143 hl (by decide) rfl fun ls hl => ?_
            have hl : lv_has ls 9 [(8, .int (iZ ((((h + (dqn m - m)) : Nat) : Int)))), (7, .int (iZ (((h : Nat) : Int)))), (6, .int (iZ ((((dqn m - m) : Nat) : Int)))), (5, .ref (H0.size)), (3, .int (iZ ((((dqn m) : Nat) : Int)))), (4, .int (iZ ((((dqj m) : Nat) : Int)))), (0, .ref (d)), (1, .int (iZ (1))), (2, .int (iZ (((m : Nat) : Int))))] := hl
            exact pb_V.mono (by omega) (by omega) (L145 _ h H4_ rfl hG (by omega) hO hN hFF ls (lv_sub hl [3, 1, 0] rfl))
      · omega
  refine pb_aload_n C dJ20_grow_0 rfl (lv_at hl 0 rfl) ?_
  refine pb_get C in_J20 hO.r (ci := 18) rfl 0 (by decide) q1456 (fun _ h9 => h9) (v := .ref (e)) rfl dJ20_grow_1 ?_
  refine pb_alen C (t := 4) (by decide) hA.b dJ20_grow_4 ?_
  refine pb_istore_n C dJ20_grow_5 rfl hl (by decide) rfl fun ls hl => ?_
  have hl : lv_has ls 9 [(2, .int (iZ (((m : Nat) : Int)))), (0, .ref (d)), (1, .int (iZ (1)))] := hl
  refine pb_iload_n C dJ20_grow_6 rfl (lv_at hl 0 rfl) ?_
  refine pb_bip C dJ20_grow_7 (by decide) ?_
  refine pb_icmp_ge C dJ20_grow_9 (x := ((m : Nat) : Int)) (y := 64) (tgt := 18) (by decide) (by omega) (by omega) (fun c9_ => ?_) (fun c9_ => ?_)
  · refine pb_iload_n C dJ20_grow_18 rfl (lv_at hl 0 rfl) ?_
    refine pb_ic C dJ20_grow_19 ?_
    refine pb_ishr C dJ20_grow_20 (x := m) (y := 1) (by omega) (by omega) ?_
    refine pb_eq (g2 := F0 m_ 21 ls [.int (iZ ((((dqj m) : Nat) : Int)))]) (congrArg (fun z9 => F0 m_ 21 ls [.int (iZ z9)]) (show (((m >>> 1) : Nat) : Int) = (((dqj m) : Nat) : Int) from (by rw [show dqj m = m / 2 from if_neg (by omega)]; exact congrArg (fun z : Nat => ((z : Nat) : Int)) (Nat.shiftRight_eq_div_pow m 1)))) ?_
    exact pb_V.mono (by omega) (by omega) (L21   ls (lv_sub hl [1, 2, 0] rfl))
  · refine pb_iload_n C dJ20_grow_12 rfl (lv_at hl 0 rfl) ?_
    refine pb_ic C dJ20_grow_13 ?_
    refine pb_iadd C dJ20_grow_14 ?_
    refine pb_eq (g2 := F0 m_ 15 ls [.int (iZ ((((dqj m) : Nat) : Int)))]) (congrArg (fun z9 => F0 m_ 15 ls [.int (iZ z9)]) (show (((m + 2) : Nat) : Int) = (((dqj m) : Nat) : Int) from (by rw [show dqj m = m + 2 from if_pos (by omega)]))) ?_
    refine pb_goto C dJ20_grow_15 (tgt := 21) (by decide) ?_
    exact pb_V.mono (by omega) (by omega) (L21   ls (lv_sub hl [1, 2, 0] rfl))

set_option maxHeartbeats 1000000 in
theorem met_J20_addLast_0 {w : pb_W} (l : Launch) {H0 : Heap} (z d e m h v : Nat) (V : List Nat) (hz : w.2.2.2 ≤ z) (hD : Dq w H0 z d e m h V) (hv : pb_El w H0 v) (hvd : v ≠ d ∧ v ≠ e) (hn : V.length + 1 < m) : pb_M w l yJ20_addLast cJ20_addLast 3 none 4 (0) (0) [.ref (d), .ref (v)] H0 (pb_qv (fun H1 => ∃ e1 h1, (e1 = e ∨ H0.size ≤ e1) ∧ Dq w H1 z d e1 (dqg m V.length) h1 (V ++ [v]) ∧ pb_F (fun q => q ≠ d ∧ q ≠ e) H0 H1)) := by
  refine pb_of (by decide +kernel) (Nat.le_of_ble_eq_true rfl) ?_
  intro p_ e_ s_ m_ ar_ bl_ me_ co_ ls C hh hG hl
  have hl : lv_has ls 3 [(0, .ref (d)), (1, .ref (v))] := hl
  obtain ⟨hzd, hze, hO, hA, hhm, hM, hVm⟩ := id hD
  have hml := dqM_le hM
  have hit := dqI_lt hhm (Nat.le_of_lt hVm)
  have hde : d ≠ e := hO.r.ty.1.ne C.inj hA.b.ty (by decide) (by decide) (by decide)
  have hFF : pb_F (fun q => q ≠ d ∧ q ≠ e) H0 H0 := pb_F.rf
  have hdl0 := hO.lt
  have hadd := dq_add hhm hVm v
  have hl1 : (V ++ [v]).length = V.length + 1 := by simp
  have hit2 := dqI_lt hhm (show (V ++ [v]).length ≤ m from by omega)
  refine pb_aload_n C dJ20_addLast_0 rfl (lv_at hl 1 rfl) ?_
  refine pb_ifnonnull C dJ20_addLast_1 (tgt := 12) (by decide) ?_
  refine pb_aload_n C dJ20_addLast_12 rfl (lv_at hl 0 rfl) ?_
  refine pb_get C in_J20 hO.r (ci := 18) rfl 0 (by decide) q1456 (fun _ h9 => h9) (v := .ref (e)) rfl dJ20_addLast_13 ?_
  refine pb_astore_n C dJ20_addLast_16 rfl hl (by decide) rfl fun ls hl => ?_
  have hl : lv_has ls 3 [(2, .ref (e)), (0, .ref (d)), (1, .ref (v))] := hl
  refine pb_aload_n C dJ20_addLast_17 rfl (lv_at hl 0 rfl) ?_
  refine pb_aload_n C dJ20_addLast_18 rfl (lv_at hl 1 rfl) ?_
  refine pb_get C in_J20 hO.r (ci := 18) rfl 2 (by decide) q1458 (fun _ h9 => h9) (v := .int (iZ ((((dqI m h V.length) : Nat) : Int)))) rfl dJ20_addLast_19 ?_
  refine pb_aload_n C dJ20_addLast_22 rfl (lv_at hl 2 rfl) ?_
  refine pb_aast C hA hv (i := (((dqI m h V.length) : Nat) : Int)) (by omega) (by omega) dJ20_addLast_23 fun H1_ hu_ hA => ?_
  rw [Int.toNat_natCast, hadd] at hA
  have hG := hG.kept (hu_.z (by omega))
  have hs_H1_ := hu_.1
  have hO := hO.kept (hu_.2 _ (by omega))
  have hFF := hFF.tr (hu_.f.mono (fun q _ hq => hq.2))
  refine pb_aload_n C dJ20_addLast_24 rfl (lv_at hl 1 rfl) ?_
  refine pb_get C in_J20 hO.r (ci := 18) rfl 1 (by decide) q1457 (fun _ h9 => h9) (v := .int (iZ (((h : Nat) : Int)))) rfl dJ20_addLast_25 ?_
  refine pb_aload_n C dJ20_addLast_28 rfl (lv_at hl 1 rfl) ?_
  refine pb_aload_n C dJ20_addLast_29 rfl (lv_at hl 1 rfl) ?_
  refine pb_get C in_J20 hO.r (ci := 18) rfl 2 (by decide) q1458 (fun _ h9 => h9) (v := .int (iZ ((((dqI m h V.length) : Nat) : Int)))) rfl dJ20_addLast_30 ?_
  refine pb_aload_n C dJ20_addLast_33 rfl (lv_at hl 0 rfl) ?_
  refine pb_alen C (t := 4) (by decide) hA.b dJ20_addLast_34 ?_
  refine pb_go_x (bc' := 0) (bs' := 0) (pb_runS (rest := [.ref (d), .int (iZ (((h : Nat) : Int)))]) C hG (met_J20_inc l (dqI m h V.length) m hit (by omega)) (lw_S q1501 q1502 q90 q1503) hdJ20_inc rfl hl.1 rfl (Nat.le_of_ble_eq_true rfl) ⟨(Nat.le_of_ble_eq_true rfl), (Nat.le_of_ble_eq_true rfl)⟩ dJ20_addLast_35) (by omega) (by omega) ?_
  refine pb_eq (g2 := F0 m_ 38 ls [.int (iZ ((((dqI m h (V ++ [v]).length) : Nat) : Int))), .ref (d), .int (iZ (((h : Nat) : Int)))]) (congrArg (fun z9 => F0 m_ 38 ls [.int (iZ z9), .ref (d), .int (iZ (((h : Nat) : Int)))]) (show (((dqP m (dqI m h V.length)) : Nat) : Int) = (((dqI m h (V ++ [v]).length) : Nat) : Int) from (by rw [hl1, dqP_I hhm hVm]))) ?_
  refine pb_dup_x1 C dJ20_addLast_38 rfl rfl ?_
  refine pb_put C in_J20 tyJ20 tyJ20_ok nmJ20 hO (ci := 18) rfl 2 (by decide) q1458 (fun _ h9 => h9) rfl (v := .int (iZ ((((dqI m h (V ++ [v]).length) : Nat) : Int)))) rfl rfl (Nat.le_of_ble_eq_true rfl) (by omega) dJ20_addLast_39 fun H2_ hu_ hO => ?_
  have hO : pb_O w H2_ (d) 18 [.ref (e), .int (iZ (((h : Nat) : Int))), .int (iZ ((((dqI m h (V ++ [v]).length) : Nat) : Int)))] := hO
  have hG := hG.kept (hu_.z (by omega))
  have hs_H2_ := hu_.1
  have hA := hA.kept (hu_.2 _ (by omega))
  have hFF := hFF.tr (hu_.f.mono (fun q _ hq => hq.1))
  have hI9 : dqI m h (V ++ [v]).length = h ↔ V.length + 1 = m := by rw [hl1]; unfold dqI; split <;> omega
  refine pb_icmp_ne C dJ20_addLast_42 (x := ((h : Nat) : Int)) (y := (((dqI m h (V ++ [v]).length) : Nat) : Int)) (tgt := 50) (by decide) (by omega) (by omega) (fun c42_ => ?_) (fun c42_ => ?_)
  · exact pb_vret C dJ20_addLast_50 (⟨rfl, e, h, Or.inl rfl, (by rw [show dqg m V.length = m from if_pos (by omega)]; exact ⟨hzd, hze, hO, hA, hhm, hM, by omega⟩), hFF⟩)
  · omega

set_option maxHeartbeats 1000000 in
theorem met_J20_addLast_1 {w : pb_W} (l : Launch) {H0 : Heap} (z d e m h v : Nat) (V : List Nat) (hz : w.2.2.2 ≤ z) (hD : Dq w H0 z d e m h V) (hv : pb_El w H0 v) (hvd : v ≠ d ∧ v ≠ e) (hn : V.length + 1 = m) (h8 : m < 838) (hel : ∀ x ∈ V, pb_El w H0 x ∧ x ≠ d ∧ x ≠ e) : pb_M w l yJ20_addLast cJ20_addLast 3 none 4 (1) (dqn m) [.ref (d), .ref (v)] H0 (pb_qv (fun H1 => ∃ e1 h1, (e1 = e ∨ H0.size ≤ e1) ∧ Dq w H1 z d e1 (dqg m V.length) h1 (V ++ [v]) ∧ pb_F (fun q => q ≠ d ∧ q ≠ e) H0 H1)) := by
  refine pb_of (by decide +kernel) (Nat.le_of_ble_eq_true rfl) ?_
  intro p_ e_ s_ m_ ar_ bl_ me_ co_ ls C hh hG hl
  have hl : lv_has ls 3 [(0, .ref (d)), (1, .ref (v))] := hl
  obtain ⟨hzd, hze, hO, hA, hhm, hM, hVm⟩ := id hD
  have hml := dqM_le hM
  have hit := dqI_lt hhm (Nat.le_of_lt hVm)
  have hde : d ≠ e := hO.r.ty.1.ne C.inj hA.b.ty (by decide) (by decide) (by decide)
  have hFF : pb_F (fun q => q ≠ d ∧ q ≠ e) H0 H0 := pb_F.rf
  have hdl0 := hO.lt
  have hadd := dq_add hhm hVm v
  have hl1 : (V ++ [v]).length = V.length + 1 := by simp
  have hit2 := dqI_lt hhm (show (V ++ [v]).length ≤ m from by omega)
  refine pb_aload_n C dJ20_addLast_0 rfl (lv_at hl 1 rfl) ?_
  refine pb_ifnonnull C dJ20_addLast_1 (tgt := 12) (by decide) ?_
  refine pb_aload_n C dJ20_addLast_12 rfl (lv_at hl 0 rfl) ?_
  refine pb_get C in_J20 hO.r (ci := 18) rfl 0 (by decide) q1456 (fun _ h9 => h9) (v := .ref (e)) rfl dJ20_addLast_13 ?_
  refine pb_astore_n C dJ20_addLast_16 rfl hl (by decide) rfl fun ls hl => ?_
  have hl : lv_has ls 3 [(2, .ref (e)), (0, .ref (d)), (1, .ref (v))] := hl
  refine pb_aload_n C dJ20_addLast_17 rfl (lv_at hl 0 rfl) ?_
  refine pb_aload_n C dJ20_addLast_18 rfl (lv_at hl 1 rfl) ?_
  refine pb_get C in_J20 hO.r (ci := 18) rfl 2 (by decide) q1458 (fun _ h9 => h9) (v := .int (iZ ((((dqI m h V.length) : Nat) : Int)))) rfl dJ20_addLast_19 ?_
  refine pb_aload_n C dJ20_addLast_22 rfl (lv_at hl 2 rfl) ?_
  refine pb_aast C hA hv (i := (((dqI m h V.length) : Nat) : Int)) (by omega) (by omega) dJ20_addLast_23 fun H1_ hu_ hA => ?_
  rw [Int.toNat_natCast, hadd] at hA
  have hG := hG.kept (hu_.z (by omega))
  have hs_H1_ := hu_.1
  have hO := hO.kept (hu_.2 _ (by omega))
  have hFF := hFF.tr (hu_.f.mono (fun q _ hq => hq.2))
  refine pb_aload_n C dJ20_addLast_24 rfl (lv_at hl 1 rfl) ?_
  refine pb_get C in_J20 hO.r (ci := 18) rfl 1 (by decide) q1457 (fun _ h9 => h9) (v := .int (iZ (((h : Nat) : Int)))) rfl dJ20_addLast_25 ?_
  refine pb_aload_n C dJ20_addLast_28 rfl (lv_at hl 1 rfl) ?_
  refine pb_aload_n C dJ20_addLast_29 rfl (lv_at hl 1 rfl) ?_
  refine pb_get C in_J20 hO.r (ci := 18) rfl 2 (by decide) q1458 (fun _ h9 => h9) (v := .int (iZ ((((dqI m h V.length) : Nat) : Int)))) rfl dJ20_addLast_30 ?_
  refine pb_aload_n C dJ20_addLast_33 rfl (lv_at hl 0 rfl) ?_
  refine pb_alen C (t := 4) (by decide) hA.b dJ20_addLast_34 ?_
  refine pb_go_x (bc' := 1) (bs' := dqn m) (pb_runS (rest := [.ref (d), .int (iZ (((h : Nat) : Int)))]) C hG (met_J20_inc l (dqI m h V.length) m hit (by omega)) (lw_S q1501 q1502 q90 q1503) hdJ20_inc rfl hl.1 rfl (Nat.le_of_ble_eq_true rfl) ⟨(Nat.le_of_ble_eq_true rfl), (Nat.le_of_ble_eq_true rfl)⟩ dJ20_addLast_35) (by omega) (by omega) ?_
  refine pb_eq (g2 := F0 m_ 38 ls [.int (iZ ((((dqI m h (V ++ [v]).length) : Nat) : Int))), .ref (d), .int (iZ (((h : Nat) : Int)))]) (congrArg (fun z9 => F0 m_ 38 ls [.int (iZ z9), .ref (d), .int (iZ (((h : Nat) : Int)))]) (show (((dqP m (dqI m h V.length)) : Nat) : Int) = (((dqI m h (V ++ [v]).length) : Nat) : Int) from (by rw [hl1, dqP_I hhm hVm]))) ?_
  refine pb_dup_x1 C dJ20_addLast_38 rfl rfl ?_
  refine pb_put C in_J20 tyJ20 tyJ20_ok nmJ20 hO (ci := 18) rfl 2 (by decide) q1458 (fun _ h9 => h9) rfl (v := .int (iZ ((((dqI m h (V ++ [v]).length) : Nat) : Int)))) rfl rfl (Nat.le_of_ble_eq_true rfl) (by omega) dJ20_addLast_39 fun H2_ hu_ hO => ?_
  have hO : pb_O w H2_ (d) 18 [.ref (e), .int (iZ (((h : Nat) : Int))), .int (iZ ((((dqI m h (V ++ [v]).length) : Nat) : Int)))] := hO
  have hG := hG.kept (hu_.z (by omega))
  have hs_H2_ := hu_.1
  have hA := hA.kept (hu_.2 _ (by omega))
  have hFF := hFF.tr (hu_.f.mono (fun q _ hq => hq.1))
  have hI9 : dqI m h (V ++ [v]).length = h ↔ V.length + 1 = m := by rw [hl1]; unfold dqI; split <;> omega
  refine pb_icmp_ne C dJ20_addLast_42 (x := ((h : Nat) : Int)) (y := (((dqI m h (V ++ [v]).length) : Nat) : Int)) (tgt := 50) (by decide) (by omega) (by omega) (fun c42_ => ?_) (fun c42_ => ?_)
  · omega
  · have hs9 := hFF.1
    have hv1 : pb_El w H2_ v := (hv.kept (hFF.2 _ hv.lt hvd))
    have hel1 : ∀ x ∈ V ++ [v], pb_El w H2_ x ∧ x ≠ d := fun x hx => (List.mem_append.mp hx).elim (fun h9 => ⟨(hel x h9).1.kept (hFF.2 _ (hel x h9).1.lt (hel x h9).2), (hel x h9).2.1⟩) (fun h9 => by rw [List.mem_singleton.mp h9]; exact ⟨hv1, hvd.1⟩)
    refine pb_aload_n C dJ20_addLast_45 rfl (lv_at hl 1 rfl) ?_
    refine pb_ic C dJ20_addLast_46 ?_
    have hO9 : pb_O w H2_ d 18 [.ref e, .int (iZ ((h : Nat) : Int)), .int (iZ ((h : Nat) : Int))] := by rw [show dqI m h (V ++ [v]).length = h from hI9.mpr hn] at hO; exact hO
    refine pb_go_v (bc' := 0) (bs' := dqn m - (dqn m)) (pb_runV (rest := []) C hG (met_J20_grow l d e m h (V ++ [v]) (by omega) hO9 hA hhm hml (by omega) hel1) hO.r (ci := 18) rfl (lw_V q1504 q1506 qs21 q90 q1507) ⟨rfl, hdJ20_grow⟩ rfl hl.1 rfl (Nat.le_of_ble_eq_true rfl) ⟨(Nat.le_of_ble_eq_true rfl), (Nat.le_of_ble_eq_true rfl)⟩ dJ20_addLast_47) (by omega) (by omega) (fun H_ hp_ => ?_)
    obtain ⟨hO, hA, hF1⟩ := hp_
    have hsz := hFF.1
    have hdn : m < dqn m := by unfold dqn dqj; split <;> omega
    have hI10 : dqI (dqn m) (h + (dqn m - m)) (V ++ [v]).length = h := by unfold dqI; rw [if_neg (by omega)]; omega
    exact pb_vret C dJ20_addLast_50 (⟨rfl, _, h + (dqn m - m), Or.inr hsz, (by rw [show dqg m V.length = dqn m from if_neg (by omega)]; exact ⟨hzd, by omega, (by rw [show dqI (dqn m) (h + (dqn m - m)) (V ++ [v]).length = h from hI10]; exact hO), hA, by omega, (dq_step hM h8).1, by omega⟩), hFF.tr (hF1.mono (fun q _ hq => hq.1))⟩)

theorem met_J20_addLast {w : pb_W} (l : Launch) {H0 : Heap} (z d e m h v : Nat) (V : List Nat) (hz : w.2.2.2 ≤ z) (hD : Dq w H0 z d e m h V) (hv : pb_El w H0 v) (hvd : v ≠ d ∧ v ≠ e) (h8 : V.length < 837) (hel : ∀ x ∈ V, pb_El w H0 x ∧ x ≠ d ∧ x ≠ e) :
    pb_M w l yJ20_addLast cJ20_addLast 3 none 4 (dqC m - dqC (dqg m V.length)) (dqS m - dqS (dqg m V.length)) [.ref (d), .ref (v)] H0 (pb_qv (fun H1 => ∃ e1 h1, (e1 = e ∨ H0.size ≤ e1) ∧ Dq w H1 z d e1 (dqg m V.length) h1 (V ++ [v]) ∧ pb_F (fun q => q ≠ d ∧ q ≠ e) H0 H1)) := by
  obtain ⟨-, -, -, -, -, hM, hVm⟩ := id hD
  have hml := dqM_le hM
  by_cases hn : V.length + 1 < m
  · rw [show dqC m - dqC (dqg m V.length) = 0 by rw [show dqg m V.length = m from if_pos hn, Nat.sub_self], show dqS m - dqS (dqg m V.length) = 0 by rw [show dqg m V.length = m from if_pos hn, Nat.sub_self]]
    exact met_J20_addLast_0 l z d e m h v V hz hD hv hvd hn
  · obtain ⟨s1, s2, s3⟩ := dq_step hM (by omega)
    rw [show dqC m - dqC (dqg m V.length) = 1 by rw [show dqg m V.length = dqn m from if_neg hn]; omega, show dqS m - dqS (dqg m V.length) = dqn m by rw [show dqg m V.length = dqn m from if_neg hn]; omega]
    exact met_J20_addLast_1 l z d e m h v V hz hD hv hvd (by omega) (by omega) hel

