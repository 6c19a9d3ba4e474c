set_option maxRecDepth 100000
set_option maxHeartbeats 1000000 in
theorem met_X8_scanned {w : pb_W} (l : Launch) {H0 : Heap} (c a : Nat) (P : Nat → Prop) (L : List Bnd) (hR : Rg w H0 P a L) (hPc : ¬ P c) (hb9 : ∀ j i, -100 ≤ eE (bE L j) i ∧ eE (bE L j) i ≤ 100) (hh9 : ∀ j, (-100 ≤ (bd L j).1 ∧ (bd L j).1 ≤ 100) ∧ (-100 ≤ (bd L j).2.1 ∧ (bd L j).2.1 ≤ 100)) (s0 : Int × Int) (hzc : w.2.2.2 ≤ c) (hO2 : pb_O w H0 c 5 [.int (iZ s0.1), .int (iZ s0.2)]) : pb_M w l yX8_scanned cX8_scanned 2 (some (.object "PolygonBoard$AreaScan")) 4 (1) (4) [.ref (c), .ref (a)] H0 (pb_qr (fun r H1 => r = c ∧ pb_O w H1 c 5 [.int (iZ (scL arS L s0 L.length).1), .int (iZ (scL arS L s0 L.length).2)] ∧ pb_F (fun q => q < H0.size ∧ q ≠ c) H0 H1)) := by
  refine pb_of (by decide +kernel) (Nat.le_of_ble_eq_true rfl) ?_
  intro p_ e_ s_ m_ ar_ bl_ me_ co_ ls C hh hG hl
  have hl : lv_has ls 2 [(0, .ref (c)), (1, .ref (a))] := hl
  refine pb_aload_n C dX8_scanned_0 rfl (lv_at hl 0 rfl) ?_
  refine pb_aload_n C dX8_scanned_1 rfl (lv_at hl 1 rfl) ?_
  refine pb_go_v (bc' := 0) (bs' := 0) (pb_runO (rest := []) C hG (met_X7_scan_X8 l c a P L hR hPc hb9 hh9 s0 hzc hO2) (x := ⟨"PolygonBoard$AreaScan", "scan", "(LPolygonBoard$Region;)V"⟩) (owner := "PolygonBoard$Scan") hO2.r (ci := 5) rfl q513 q514 q517 q518 q516 q517 q74 q518 (n := 1) ⟨by decide, by decide, by decide +kernel⟩ rfl hl.1 rfl (Nat.le_of_ble_eq_true rfl) ⟨(Nat.le_of_ble_eq_true rfl), (Nat.le_of_ble_eq_true rfl)⟩ dX8_scanned_2) (by omega) (by omega) (fun H_ hp_ => ?_)
  obtain ⟨hO9, hF9⟩ := hp_
  refine pb_aload_n C dX8_scanned_5 rfl (lv_at hl 0 rfl) ?_
  exact pb_aret C (Or.inl ⟨_, rfl⟩) dX8_scanned_6 (Or.inr ⟨_, rfl⟩) (⟨_, rfl, rfl, hO9, hF9⟩)

set_option maxHeartbeats 1000000 in
theorem met_X2_area {w : pb_W} (l : Launch) {H0 : Heap} (a : Nat) (P : Nat → Prop) (L : List Bnd) (hR : Rg w H0 P a L) (hb9 : ∀ j i, -100 ≤ eE (bE L j) i ∧ eE (bE L j) i ≤ 100) (hh9 : ∀ j, (-100 ≤ (bd L j).1 ∧ (bd L j).1 ≤ 100) ∧ (-100 ≤ (bd L j).2.1 ∧ (bd L j).2.1 ≤ 100)) : pb_M w l yX2_area cX2_area 1 (some .int) 5 (2) (6) [.ref (a)] H0 (pb_qi (fun z H1 => z = (scL arS L (0, 0) L.length).2 ∧ pb_F (fun q => q < H0.size) H0 H1)) := by
  refine pb_of (by decide +kernel) (Nat.le_of_ble_eq_true rfl) ?_
  intro p_ e_ s_ m_ ar_ bl_ me_ co_ ls C hh hG hl
  have hl : lv_has ls 1 [(0, .ref (a))] := hl
  have hzs := hG.1
  obtain ⟨fsR_, hRo⟩ := hR.o
  refine pb_newE C in_X8 tyX8 tyX8_ok (ci := 5) rfl q491 q492 q75 (fs := [.int (iZ (0)), .int (iZ (0))]) (by decide) (bc' := 1) (bs' := 4) (by omega) (by omega) dX2_area_0 fun a1_ H1_ ha_ hn_ hN1_ => ?_
  have hs1_ : H1_.size = H0.size + 1 := hn_.1
  have hG := hG.kept (hn_.f.mono (fun _ _ _ => trivial))
  have hRo := hRo.kept (hn_.2 _ hRo.lt)
  obtain rfl : a1_ = H0.size := by omega
  skip
  have hN := hN1_
  refine pb_dup C dX2_area_3 rfl ?_
  refine pb_go_v (bc' := 1) (bs' := 4) (pb_runIN (rest := [.ref (H0.size)]) C hG (met_X8_init l H0.size) q493 q494 q75 q495 rfl hdX8_init rfl hl.1 rfl (Nat.le_of_ble_eq_true rfl) ⟨(Nat.le_of_ble_eq_true rfl), (Nat.le_of_ble_eq_true rfl)⟩ dX2_area_4) (by omega) (by omega) (fun H_ hp_ => ?_)
  have hp8 := hp_.symm
  subst hp8
  refine pb_aload_n C dX2_area_7 rfl (lv_at hl 0 rfl) ?_
  refine pb_go_r (bc' := 0) (bs' := 0) (pb_runV (rest := []) C hG (met_X8_scanned l H0.size a (fun q => q < H0.size) L (hR.below.kept (hn_.f.mono (fun _ _ _ => trivial))) (fun h9 => absurd (show H0.size < H0.size from h9) (Nat.lt_irrefl _)) hb9 hh9 (0, 0) (by omega) hN) hN.r (ci := 5) rfl (lw_V q509 q510 q511 q75 q512) ⟨rfl, hdX8_scanned⟩ rfl hl.1 rfl (Nat.le_of_ble_eq_true rfl) ⟨(Nat.le_of_ble_eq_true rfl), (Nat.le_of_ble_eq_true rfl)⟩ dX2_area_8) (by omega) (by omega) (fun c9 H_ hp_ => ?_)
  obtain ⟨rfl, hO9, hF9⟩ := hp_
  refine pb_getN C in_X8 hO9.r (ci := 5) rfl 1 (by decide) q501 (fun _ h9 => h9) (v := .int (iZ ((scL arS L (0, 0) L.length).2))) rfl dX2_area_11 ?_
  exact pb_iret C dX2_area_14 (⟨_, rfl, rfl, ⟨by have := hF9.1; omega, fun q hq h9 => (hF9.2 q (by omega) ⟨by omega, show q ≠ H0.size from by omega⟩).trans (hn_.2 q hq)⟩⟩)

set_option maxHeartbeats 1000000 in
theorem met_X17_middle {w : pb_W} (l : Launch) {H : Heap} (c k : Nat) (v0 v1 v2 : Value) (hO : pb_R w H c 7 [v0, v1, v2, .int (iZ ((k : Nat) : Int))]) (hk0 : 0 < k) (hk1 : k < 1000) (x : Int) : pb_M w l yX17_middle cX17_middle 2 (some .double) 0 (0) (0) [.ref (c), .int (iZ (x))] H (pb_qx (.double (FP.ddiv (FP.ddiv (FP.i2d (iZ x)) 4611686018427387904) (FP.i2d (iZ ((k : Nat) : Int))))) H) := by
  refine pb_of (by decide +kernel) (Nat.le_of_ble_eq_true rfl) ?_
  intro p_ e_ s_ m_ ar_ bl_ me_ co_ ls C hh hG hl
  have hl : lv_has ls 2 [(0, .ref (c)), (1, .int (iZ (x)))] := hl
  refine pb_iload_n C dX17_middle_0 rfl (lv_at hl 1 rfl) ?_
  refine pb_i2d C dX17_middle_1 ?_
  refine pb_ldc2d C dX17_middle_2 q1716 ?_
  refine pb_ddiv C dX17_middle_5 (fp_ddiv (fp_i2d _) fp_two) ?_
  refine pb_aload_n C dX17_middle_6 rfl (lv_at hl 0 rfl) ?_
  refine pb_get C in_X17 hO (ci := 7) rfl 3 (by decide) q1695 (fun _ h9 => h9) (v := .int (iZ (((k : Nat) : Int)))) rfl dX17_middle_7 ?_
  refine pb_i2d C dX17_middle_10 ?_
  refine pb_ddiv C dX17_middle_11 (fp_ddiv (fp_ddiv (fp_i2d _) fp_two) (fp_nz64 hk0 hk1)) ?_
  exact pb_dret C dX17_middle_12 (⟨rfl, rfl⟩)

set_option maxHeartbeats 1000000 in
theorem met_X16_measure {w : pb_W} (l : Launch) {H0 : Heap} (c s : Nat) (P : Nat → Prop) (E : List Int) (hS : Sp w H0 P s E) (hPc : ¬ P c) (hE9 : ∀ i, -100 ≤ eE E i ∧ eE E i ≤ 100) (h : Int) (hhr : -200 ≤ h ∧ h ≤ 200) (s0 : Int × Int) (hs9 : (-100000 ≤ s0.1 ∧ s0.1 ≤ 100000) ∧ (-100000 ≤ s0.2 ∧ s0.2 ≤ 100000)) (hzc : w.2.2.2 ≤ c) (hO : pb_O w H0 c 14 [.int (iZ s0.1), .int (iZ s0.2)]) : pb_M w l yX16_measure cX16_measure 4 none 2 (0) (0) [.ref (c), .ref (s), .int (iZ (h))] H0 (pb_qv (fun H1 => pb_O w H1 c 14 [.int (iZ (meS E h s0 (E.length / 2)).1), .int (iZ (meS E h s0 (E.length / 2)).2)] ∧ pb_F (fun q => q ≠ c) H0 H1)) := by
  refine pb_of (by decide +kernel) (Nat.le_of_ble_eq_true rfl) ?_
  intro p_ e_ s_ m_ ar_ bl_ me_ co_ ls C hh hG hl
  have hl : lv_has ls 4 [(0, .ref (c)), (1, .ref (s)), (2, .int (iZ (h)))] := hl
  have hFF : pb_F (fun q => q ≠ c) H0 H0 := pb_F.rf
  have L2 : ∀ (n_ : Nat) (j : Nat) (H : Heap), E.length / 2 - j = n_ → (pb_G w s_ H) → (j ≤ E.length / 2) → (pb_O w H c 14 [.int (iZ (meS E h s0 j).1), .int (iZ (meS E h s0 j).2)]) → (pb_F (fun q => q ≠ c) H0 H) → ∀ (ls : Array Slot), lv_has ls 4 [(0, .ref (c)), (1, .ref (s)), (2, .int (iZ (h))), (3, .int (iZ (((j : Nat) : Int))))] → pb_V w.2.2.2 p_ l e_ (pb_rm 2 (0) (0)) s_ m_ ar_ bl_ me_ co_ H (0) (0) (pb_E w bl_ ar_ s_ (0) (0) (pb_qv (fun H1 => pb_O w H1 c 14 [.int (iZ (meS E h s0 (E.length / 2)).1), .int (iZ (meS E h s0 (E.length / 2)).2)] ∧ pb_F (fun q => q ≠ c) H0 H1))) (F0 m_ 2 ls []) := by
    intro n_
    induction n_ using Nat.strongRecOn with
    | _ n_ ih2 =>
    intro j H hm_ hG hj hO hFF ls hl
    have hS := hS.kept (hFF.mono (fun q _ hq => fun e9 => hPc (e9 ▸ hq)))
    obtain ⟨fsS_, hSo⟩ := hS.o
    have hmr := meS_rg hE9 hhr (s := s0) hs9 j
    have he1 := hE9 (2 * j)
    have he2 := hE9 (2 * j + 1)
    have hmu := mul_rg (a := h) (b := eE E (2 * j + 1) - eE E (2 * j)) hhr (by omega)
    have hl64 := hS.rg.2
    refine pb_iload_n C dX16_measure_2 rfl (lv_at hl 3 rfl) ?_
    refine pb_aload_n C dX16_measure_3 rfl (lv_at hl 1 rfl) ?_
    refine pb_go_x (bc' := 0) (bs' := 0) (pb_runV (rest := [.int (iZ (((j : Nat) : Int)))]) C hG (met_X4_size l s _ E hS) hSo (ci := 3) rfl (lw_V q1422 q428 q429 q70 q430) ⟨rfl, hdX4_size⟩ rfl hl.1 rfl (Nat.le_of_ble_eq_true rfl) ⟨(Nat.le_of_ble_eq_true rfl), (Nat.le_of_ble_eq_true rfl)⟩ dX16_measure_4) (by omega) (by omega) ?_
    refine pb_icmp_ge C dX16_measure_7 (x := ((j : Nat) : Int)) (y := (((E.length / 2) : Nat) : Int)) (tgt := 54) (by decide) (by omega) (by omega) (fun c7_ => ?_) (fun c7_ => ?_)
    · exact pb_vret C dX16_measure_54 (⟨rfl, by rw [show E.length / 2 = j from by omega]; exact hO, hFF⟩)
    · refine pb_aload_n C dX16_measure_10 rfl (lv_at hl 0 rfl) ?_
      refine pb_aload_n C dX16_measure_11 rfl (lv_at hl 0 rfl) ?_
      refine pb_get C in_X16 hO.r (ci := 14) rfl 0 (by decide) q1426 (fun _ h9 => h9) (v := .int (iZ ((meS E h s0 j).1))) rfl dX16_measure_12 ?_
      refine pb_iload_n C dX16_measure_15 rfl (lv_at hl 2 rfl) ?_
      refine pb_aload_n C dX16_measure_16 rfl (lv_at hl 1 rfl) ?_
      refine pb_iload_n C dX16_measure_17 rfl (lv_at hl 3 rfl) ?_
      refine pb_go_x (bc' := 0) (bs' := 0) (pb_runV (rest := [.int (iZ (h)), .int (iZ ((meS E h s0 j).1)), .ref (c)]) C hG (met_X4_width l s _ E hS j (by omega)) hSo (ci := 3) rfl (lw_V q1423 q1161 q1162 q70 q1163) ⟨rfl, hdX4_width⟩ rfl hl.1 rfl (Nat.le_of_ble_eq_true rfl) ⟨(Nat.le_of_ble_eq_true rfl), (Nat.le_of_ble_eq_true rfl)⟩ dX16_measure_18) (by omega) (by omega) ?_
      refine pb_imul C dX16_measure_21 ?_
      refine pb_mmax C (x := (meS E h s0 j).1) (y := (h * (eE E (2 * j + 1) - eE E (2 * j)))) q1424 q171 q57 q172 hl.1 ⟨(Nat.le_of_ble_eq_true rfl), (Nat.le_of_ble_eq_true rfl)⟩ (by omega) (by omega) dX16_measure_22 ?_
      refine pb_put C in_X16 tyX16 tyX16_ok nmX16 hO (ci := 14) rfl 0 (by decide) q1426 (fun _ h9 => h9) rfl (v := .int (iZ ((max ((meS E h s0 j).1) ((h * (eE E (2 * j + 1) - eE E (2 * j)))))))) rfl rfl (Nat.le_of_ble_eq_true rfl) (by omega) dX16_measure_25 fun H1_ hu_ hO => ?_
      have hO : pb_O w H1_ (c) 14 [.int (iZ ((max ((meS E h s0 j).1) ((h * (eE E (2 * j + 1) - eE E (2 * j))))))), .int (iZ ((meS E h s0 j).2))] := hO
      have hG := hG.kept (hu_.z (by omega))
      have hs_H1_ := hu_.1
      have hFF := hFF.tr hu_.f
      have hS := hS.kept (hu_.f.mono (fun q _ hq => fun e9 => hPc (e9 ▸ hq)))
      obtain ⟨fsS_, hSo⟩ := hS.o
      refine pb_aload_n C dX16_measure_28 rfl (lv_at hl 0 rfl) ?_
      refine pb_aload_n C dX16_measure_29 rfl (lv_at hl 0 rfl) ?_
      refine pb_get C in_X16 hO.r (ci := 14) rfl 1 (by decide) q1428 (fun _ h9 => h9) (v := .int (iZ ((meS E h s0 j).2))) rfl dX16_measure_30 ?_
      refine pb_iload_n C dX16_measure_33 rfl (lv_at hl 2 rfl) ?_
      refine pb_aload_n C dX16_measure_34 rfl (lv_at hl 1 rfl) ?_
      refine pb_iload_n C dX16_measure_35 rfl (lv_at hl 3 rfl) ?_
      refine pb_go_x (bc' := 0) (bs' := 0) (pb_runV (rest := [.int (iZ (h)), .int (iZ ((meS E h s0 j).2)), .ref (c)]) C hG (met_X4_width l s _ E hS j (by omega)) hSo (ci := 3) rfl (lw_V q1423 q1161 q1162 q70 q1163) ⟨rfl, hdX4_width⟩ rfl hl.1 rfl (Nat.le_of_ble_eq_true rfl) ⟨(Nat.le_of_ble_eq_true rfl), (Nat.le_of_ble_eq_true rfl)⟩ dX16_measure_36) (by omega) (by omega) ?_
      refine pb_mmin C (x := h) (y := (eE E (2 * j + 1) - eE E (2 * j))) q1425 q220 q57 q221 hl.1 ⟨(Nat.le_of_ble_eq_true rfl), (Nat.le_of_ble_eq_true rfl)⟩ (by omega) (by omega) dX16_measure_39 ?_
      refine pb_mmax C (x := (meS E h s0 j).2) (y := (min h ((eE E (2 * j + 1) - eE E (2 * j))))) q1424 q171 q57 q172 hl.1 ⟨(Nat.le_of_ble_eq_true rfl), (Nat.le_of_ble_eq_true rfl)⟩ (by omega) (by omega) dX16_measure_42 ?_
      refine pb_put C in_X16 tyX16 tyX16_ok nmX16 hO (ci := 14) rfl 1 (by decide) q1428 (fun _ h9 => h9) rfl (v := .int (iZ ((max ((meS E h s0 j).2) ((min h ((eE E (2 * j + 1) - eE E (2 * j))))))))) rfl rfl (Nat.le_of_ble_eq_true rfl) (by omega) dX16_measure_45 fun H2_ hu_ hO => ?_
      have hO : pb_O w H2_ (c) 14 [.int (iZ ((max ((meS E h s0 j).1) ((h * (eE E (2 * j + 1) - eE E (2 * j))))))), .int (iZ ((max ((meS E h s0 j).2) ((min h ((eE E (2 * j + 1) - eE E (2 * j))))))))] := hO
      have hG := hG.kept (hu_.z (by omega))
      have hs_H2_ := hu_.1
      have hFF := hFF.tr hu_.f
      have hS := hS.kept (hu_.f.mono (fun q _ hq => fun e9 => hPc (e9 ▸ hq)))
      obtain ⟨fsS_, hSo⟩ := hS.o
      refine pb_iinc C dX16_measure_48 hl (j := 3) (x := (((j : Nat) : Int))) rfl (by decide) rfl fun ls hl => ?_
      have hl : lv_has ls 4 [(3, .int (iZ ((((j + 1) : Nat) : Int)))), (0, .ref (c)), (1, .ref (s)), (2, .int (iZ (h)))] := hl
      refine pb_goto C dX16_measure_51 (tgt := 2) (by decide) ?_
      exact pb_V.mono (by omega) (by omega) (ih2 _ (by omega) (j + 1) H2_ rfl hG (by omega) hO hFF ls (lv_sub hl [1, 2, 3, 0] rfl))
  refine pb_ic C dX16_measure_0 ?_
  refine pb_istore_n C dX16_measure_1 rfl hl (by decide) rfl fun ls hl => ?_
  have hl : lv_has ls 4 [(3, .int (iZ (0))), (0, .ref (c)), (1, .ref (s)), (2, .int (iZ (h)))] := hl
  exact pb_V.mono (by omega) (by omega) (L2 _ 0 H0 rfl hG (by omega) hO hFF ls (lv_sub hl [1, 2, 3, 0] rfl))

set_option maxHeartbeats 1000000 in
theorem met_X16_search {w : pb_W} (l : Launch) {H0 : Heap} (c a : Nat) (P : Nat → Prop) (L : List Bnd) (hR : Rg w H0 P a L) (hPc : ¬ P c) (f : Nat) (hf : f < L.length) (hL24 : L.length ≤ 24) (s0 : Int × Int) (hs9 : (-100000 ≤ s0.1 ∧ s0.1 ≤ 100000) ∧ (-100000 ≤ s0.2 ∧ s0.2 ≤ 100000)) (hcb : ∀ f j E h q, seK L f s0 j = (E, h, q, true) → f + j < L.length → ∀ n, n ≤ E.length + (bE L (f + j)).length → (cmS 1 E (bE L (f + j)) n).2.2.2.length ≤ 64) (hcb9 : ∀ f j E h q, seK L f s0 j = (E, h, q, true) → f + j < L.length → ∀ i, -100 ≤ eE (cmE 1 E (bE L (f + j))) i ∧ eE (cmE 1 E (bE L (f + j))) i ≤ 100) (hHj : ∀ f j E h q, seK L f s0 j = (E, h, q, true) → (bd L (f + j)).1 = (bd L f).1 + h → f + j < L.length → -200 ≤ h + ((bd L (f + j)).2.1 - (bd L (f + j)).1) ∧ h + ((bd L (f + j)).2.1 - (bd L (f + j)).1) ≤ 200) (hzc : w.2.2.2 ≤ c) (hO2 : pb_O w H0 c 14 [.int (iZ s0.1), .int (iZ s0.2)]) : pb_M w l yX16_search cX16_search 8 none 4 (120) (2928) [.ref (c), .ref (a), .int (iZ (((f : Nat) : Int)))] H0 (pb_qv (fun H1 => pb_O w H1 c 14 [.int (iZ (seK L f s0 (L.length - f)).2.2.1.1), .int (iZ (seK L f s0 (L.length - f)).2.2.1.2)] ∧ pb_F (fun q => q < H0.size ∧ q ≠ c) H0 H1)) := by
  refine pb_of (by decide +kernel) (Nat.le_of_ble_eq_true rfl) ?_
  intro p_ e_ s_ m_ ar_ bl_ me_ co_ ls C hh hG hl
  have hl : lv_has ls 8 [(0, .ref (c)), (1, .ref (a)), (2, .int (iZ (((f : Nat) : Int))))] := hl
  have hzs := hG.1
  have hFF : pb_F (fun q => q < H0.size ∧ q ≠ c) H0 H0 := pb_F.rf
  have hR := hR.mono (fun q h9 (h : P q) => (⟨h9, fun e => hPc (e ▸ h)⟩ : q < H0.size ∧ q ≠ c))
  obtain ⟨t, V, hPa, hO, hLr, hVn, hBd⟩ := id hR
  obtain ⟨fsL_, hLo⟩ := hLr.o
  have hn9 := hLr.n
  have hrb := hR.rb
  have L26 : ∀ (n_ : Nat) (j s9 : Nat) (E9 : List Int) (h9 : Int) (q9 : Int × Int) (H : Heap), V.length - (f + j) = n_ → (pb_G w s_ H) → (f + j ≤ V.length) → (seK L f s0 j = (E9, h9, q9, true)) → (Sp w H (fun q => q ≠ c) s9 E9) → ((-100000 ≤ q9.1 ∧ q9.1 ≤ 100000) ∧ (-100000 ≤ q9.2 ∧ q9.2 ≤ 100000)) → (-200 ≤ h9 ∧ h9 ≤ 200) → (pb_O w H c 14 [.int (iZ q9.1), .int (iZ q9.2)]) → (pb_F (fun q => q < H0.size ∧ q ≠ c) H0 H) → ∀ (ls : Array Slot), lv_has ls 8 [(0, .ref (c)), (1, .ref (a)), (2, .int (iZ (((f : Nat) : Int)))), (3, .ref ((nV V f))), (4, .ref (s9)), (5, .int (iZ (h9))), (6, .int (iZ ((((f + j) : Nat) : Int))))] → pb_V w.2.2.2 p_ l e_ (pb_rm 4 (120) (2928)) s_ m_ ar_ bl_ me_ co_ H (5 * (24 - j)) (122 * (24 - j)) (pb_E w bl_ ar_ s_ (120) (2928) (pb_qv (fun H1 => pb_O w H1 c 14 [.int (iZ (seK L f s0 (L.length - f)).2.2.1.1), .int (iZ (seK L f s0 (L.length - f)).2.2.1.2)] ∧ pb_F (fun q => q < H0.size ∧ q ≠ c) H0 H1))) (F0 m_ 26 ls []) := by
    intro n_
    induction n_ using Nat.strongRecOn with
    | _ n_ ih26 =>
    intro j s9 E9 h9 q9 H hm_ hG hj hk hS hq9 hh1 hO2 hFF ls hl
    have hO := hO.kept (hFF.2 _ hO.lt hPa)
    obtain ⟨hPbf, spf, hObf, hSpf, hb1f, hb2f⟩ := (hBd f (by omega)).kept hFF
    obtain ⟨fsS9_, hSo9⟩ := hS.o
    refine pb_iload C dX16_search_26 (lv_at hl 6 rfl) ?_
    refine pb_aload_n C dX16_search_28 rfl (lv_at hl 1 rfl) ?_
    refine pb_getN C in_X2 hO (ci := 1) rfl 0 (by decide) q138 (fun _ h9 => h9) (v := .ref (t)) rfl dX16_search_29 ?_
    obtain ⟨fsL_, hLo⟩ := (hLr.kept hFF).o
    refine pb_go_x (bc' := 5 * (24 - j)) (bs' := 122 * (24 - j)) (pb_runF (n := 0) (rest := [.int (iZ ((((f + j) : Nat) : Int)))]) C hG (x := ⟨"java/util/List", "size", "()I"⟩) (met_J2_size l t _ V (hLr.kept hFF)) hLo (ci := 15) rfl (by decide) q1407 q444 q446 q54 q448 (by decide +kernel) rfl hl.1 rfl (Nat.le_of_ble_eq_true rfl) ⟨(Nat.le_of_ble_eq_true rfl), (Nat.le_of_ble_eq_true rfl)⟩ dX16_search_32) (by omega) (by omega) ?_
    refine pb_icmp_ge C dX16_search_37 (x := (((f + j) : Nat) : Int)) (y := ((V.length : Nat) : Int)) (tgt := 111) (by decide) (by omega) (by omega) (fun c37_ => ?_) (fun c37_ => ?_)
    · exact pb_vret C dX16_search_111 (⟨rfl, by rw [show L.length - f = j from by omega, hk]; exact hO2, hFF⟩)
    · refine pb_aload_n C dX16_search_40 rfl (lv_at hl 1 rfl) ?_
      refine pb_getN C in_X2 hO (ci := 1) rfl 0 (by decide) q138 (fun _ h9 => h9) (v := .ref (t)) rfl dX16_search_41 ?_
      refine pb_iload C dX16_search_44 (lv_at hl 6 rfl) ?_
      obtain ⟨fsL_, hLo⟩ := (hLr.kept hFF).o
      refine pb_go_x (bc' := 5 * (24 - j)) (bs' := 122 * (24 - j)) (pb_runF (n := 1) (rest := []) C hG (x := ⟨"java/util/List", "get", "(I)Ljava/lang/Object;"⟩) (met_J2_get l t _ V (hLr.kept hFF) (f + j) (by omega)) hLo (ci := 15) rfl (by decide) q1413 q360 q362 q54 q364 (by decide +kernel) rfl hl.1 rfl (Nat.le_of_ble_eq_true rfl) ⟨(Nat.le_of_ble_eq_true rfl), (Nat.le_of_ble_eq_true rfl)⟩ dX16_search_46) (by omega) (by omega) ?_
      obtain ⟨hPbj, spj, hObj, hSpj, hb1j, hb2j⟩ := (hBd (f + j) (by omega)).kept hFF
      obtain ⟨fspj_, hSoj⟩ := hSpj.o
      refine pb_cast C hObj (ci := 4) rfl q1414 dX16_search_51 ?_
      refine pb_astore C dX16_search_54 hl (by decide) rfl fun ls hl => ?_
      have hl : lv_has ls 8 [(7, .ref ((nV V (f + j)))), (0, .ref (c)), (1, .ref (a)), (2, .int (iZ (((f : Nat) : Int)))), (3, .ref ((nV V f))), (4, .ref (s9)), (5, .int (iZ (h9))), (6, .int (iZ ((((f + j) : Nat) : Int))))] := hl
      refine pb_aload C dX16_search_56 (lv_at hl 0 rfl) ?_
      refine pb_getN C in_X5 hObj (ci := 4) rfl 0 (by decide) q463 (fun _ h9 => h9) (v := .int (iZ ((bd L (f + j)).1))) rfl dX16_search_58 ?_
      refine pb_aload_n C dX16_search_61 rfl (lv_at hl 4 rfl) ?_
      refine pb_getN C in_X5 hObf (ci := 4) rfl 0 (by decide) q463 (fun _ h9 => h9) (v := .int (iZ ((bd L f).1))) rfl dX16_search_62 ?_
      refine pb_iload C dX16_search_65 (lv_at hl 6 rfl) ?_
      refine pb_iadd C dX16_search_67 ?_
      refine pb_icmp_eq C dX16_search_68 (x := (bd L (f + j)).1) (y := ((bd L f).1 + h9)) (tgt := 72) (by decide) (by omega) (by omega) (fun c68_ => ?_) (fun c68_ => ?_)
      · have hhj : -200 ≤ h9 + ((bd L (f + j)).2.1 - (bd L (f + j)).1) ∧ h9 + ((bd L (f + j)).2.1 - (bd L (f + j)).1) ≤ 200 := hHj f j E9 h9 q9 hk c68_ (by omega)
        refine pb_iload C dX16_search_72 (lv_at hl 6 rfl) ?_
        refine pb_aload C dX16_search_74 (lv_at hl 0 rfl) ?_
        refine pb_go_x (bc' := 5 * (24 - j)) (bs' := 122 * (24 - j)) (pb_runV (rest := [.int (iZ (h9))]) C hG (met_X5_height l _ spj _ _ hObj) hObj (ci := 4) rfl (lw_V q1415 q1148 q1149 q71 q1150) ⟨rfl, hdX5_height⟩ rfl hl.1 rfl (Nat.le_of_ble_eq_true rfl) ⟨(Nat.le_of_ble_eq_true rfl), (Nat.le_of_ble_eq_true rfl)⟩ dX16_search_76) (by omega) (by omega) ?_
        refine pb_iadd C dX16_search_79 ?_
        refine pb_istore C dX16_search_80 hl (by decide) rfl fun ls hl => ?_
        have hl : lv_has ls 8 [(5, .int (iZ ((h9 + ((bd L (f + j)).2.1 - (bd L (f + j)).1))))), (7, .ref ((nV V (f + j)))), (0, .ref (c)), (1, .ref (a)), (2, .int (iZ (((f : Nat) : Int)))), (3, .ref ((nV V f))), (4, .ref (s9)), (6, .int (iZ ((((f + j) : Nat) : Int))))] := hl
        refine pb_aload C dX16_search_82 (lv_at hl 6 rfl) ?_
        refine pb_aload C dX16_search_84 (lv_at hl 1 rfl) ?_
        refine pb_getN C in_X5 hObj (ci := 4) rfl 1 (by decide) q466 (fun _ h9 => h9) (v := .ref (spj)) rfl dX16_search_86 ?_
        refine pb_gets C (n := "INTERSECTION") (v := .ref (w.2.2.1 4)) hG.2.2.2.2.2.2.2.2.2.2.1.1 q1416 (fun _ h9 => h9) dX16_search_89 ?_
        refine pb_go_r (bc' := 5 * (24 - j) - 5) (bs' := 122 * (24 - j) - 122) (pb_runV (rest := []) C hG (met_X4_combine l s9 spj 1 (by decide) _ _ E9 (bE L (f + j)) hS hSpj (hcb f j E9 h9 q9 hk (by omega))) hSo9 (ci := 3) rfl (lw_V q1417 q695 q696 q70 q697) ⟨rfl, hdX4_combine⟩ rfl hl.1 rfl (Nat.le_of_ble_eq_true rfl) ⟨(Nat.le_of_ble_eq_true rfl), (Nat.le_of_ble_eq_true rfl)⟩ dX16_search_92) (by omega) (by omega) (fun s3 H_ hp_ => ?_)
        have hz5 := hFF.1
        obtain ⟨m9, hS3, hF1⟩ := hp_
        have hc9 : c < _ := hO2.lt
        have hG := hG.kept (hF1.mono (fun q _ (hq : q < w.2.2.2) => Nat.lt_of_lt_of_le hq hG.1))
        have hO2 := hO2.kept (hF1.2 _ hO2.lt hO2.lt)
        have hFF := hFF.tr (hF1.mono (fun q _ hq => Nat.lt_of_lt_of_le hq.1 hz5))
        have hS8 : Sp w H_ (fun q => q ≠ c) s3 (cmE 1 E9 (bE L (f + j))) := hS3.sp.mono (fun q _ hq => fun e9 => absurd hq.1 (by rw [e9]; omega))
        obtain ⟨fs3_, hS8o⟩ := hS8.o
        have hcE := hcb9 f j E9 h9 q9 hk (by omega)
        refine pb_astore C dX16_search_95 hl (by decide) rfl fun ls hl => ?_
        have hl : lv_has ls 8 [(4, .ref (s3)), (5, .int (iZ ((h9 + ((bd L (f + j)).2.1 - (bd L (f + j)).1))))), (7, .ref ((nV V (f + j)))), (0, .ref (c)), (1, .ref (a)), (2, .int (iZ (((f : Nat) : Int)))), (3, .ref ((nV V f))), (6, .int (iZ ((((f + j) : Nat) : Int))))] := hl
        refine pb_aload_n C dX16_search_97 rfl (lv_at hl 3 rfl) ?_
        refine pb_aload C dX16_search_98 (lv_at hl 0 rfl) ?_
        refine pb_iload C dX16_search_100 (lv_at hl 1 rfl) ?_
        refine pb_go_v (bc' := 5 * (24 - j) - 5) (bs' := 122 * (24 - j) - 122) (pb_runV (rest := []) C hG (met_X16_measure l c s3 _ (cmE 1 E9 (bE L (f + j))) hS8 (fun h => h rfl) hcE (h9 + ((bd L (f + j)).2.1 - (bd L (f + j)).1)) hhj q9 hq9 hzc hO2) hO2.r (ci := 14) rfl (lw_V q1418 q1420 qs20 q89 q1421) ⟨rfl, hdX16_measure⟩ rfl hl.1 rfl (Nat.le_of_ble_eq_true rfl) ⟨(Nat.le_of_ble_eq_true rfl), (Nat.le_of_ble_eq_true rfl)⟩ dX16_search_102) (by omega) (by omega) (fun H_ hp_ => ?_)
        obtain ⟨hO2, hF1⟩ := hp_
        have hG := hG.kept (hF1.mono (fun q _ (hq : q < w.2.2.2) => show q ≠ _ from by omega))
        have hS8 := hS8.kept hF1
        have hFF := hFF.tr (hF1.mono (fun q _ hq => hq.2))
        refine pb_iinc C dX16_search_105 hl (j := 7) (x := ((((f + j) : Nat) : Int))) rfl (by decide) rfl fun ls hl => ?_
        have hl : lv_has ls 8 [(6, .int (iZ (((((f + j) + 1) : Nat) : Int)))), (4, .ref (s3)), (5, .int (iZ ((h9 + ((bd L (f + j)).2.1 - (bd L (f + j)).1))))), (7, .ref ((nV V (f + j)))), (0, .ref (c)), (1, .ref (a)), (2, .int (iZ (((f : Nat) : Int)))), (3, .ref ((nV V f)))] := hl
        rw [show ((((f + j) + 1) : Nat) : Int) = (((f + (j + 1)) : Nat) : Int) from by omega] at hl
        refine pb_goto C dX16_search_108 (tgt := 26) (by decide) ?_
        exact pb_V.mono (by omega) (by omega) (ih26 _ (by omega) (j + 1) s3 (cmE 1 E9 (bE L (f + j))) (h9 + ((bd L (f + j)).2.1 - (bd L (f + j)).1)) (meS (cmE 1 E9 (bE L (f + j))) (h9 + ((bd L (f + j)).2.1 - (bd L (f + j)).1)) q9 ((cmE 1 E9 (bE L (f + j))).length / 2)) H_ rfl hG (by omega) (seK_go hk c68_) hS8 (meS_rg hcE hhj hq9 _) hhj hO2 hFF ls (lv_sub hl [4, 5, 6, 7, 1, 2, 0] rfl))
      · exact pb_vret C dX16_search_71 (⟨rfl, by have h8 := seK_stop hk c68_ (L.length - f - (j + 1)); rw [show j + 1 + (L.length - f - (j + 1)) = L.length - f from by omega] at h8; rw [h8]; exact hO2, hFF⟩)
  refine pb_aload_n C dX16_search_0 rfl (lv_at hl 1 rfl) ?_
  refine pb_getN C in_X2 hO (ci := 1) rfl 0 (by decide) q138 (fun _ h9 => h9) (v := .ref (t)) rfl dX16_search_1 ?_
  refine pb_iload_n C dX16_search_4 rfl (lv_at hl 2 rfl) ?_
  obtain ⟨fsL_, hLo⟩ := (hLr.kept hFF).o
  refine pb_go_x (bc' := 120) (bs' := 2928) (pb_runF (n := 1) (rest := []) C hG (x := ⟨"java/util/List", "get", "(I)Ljava/lang/Object;"⟩) (met_J2_get l t _ V (hLr.kept hFF) f (by omega)) hLo (ci := 15) rfl (by decide) q1413 q360 q362 q54 q364 (by decide +kernel) rfl hl.1 rfl (Nat.le_of_ble_eq_true rfl) ⟨(Nat.le_of_ble_eq_true rfl), (Nat.le_of_ble_eq_true rfl)⟩ dX16_search_5) (by omega) (by omega) ?_
  obtain ⟨hPbf, spf, hObf, hSpf, hb1f, hb2f⟩ := (hBd f (by omega)).kept hFF
  obtain ⟨fspf_, hSof⟩ := hSpf.o
  refine pb_cast C hObf (ci := 4) rfl q1414 dX16_search_10 ?_
  refine pb_astore_n C dX16_search_13 rfl hl (by decide) rfl fun ls hl => ?_
  have hl : lv_has ls 8 [(3, .ref ((nV V f))), (0, .ref (c)), (1, .ref (a)), (2, .int (iZ (((f : Nat) : Int))))] := hl
  refine pb_aload_n C dX16_search_14 rfl (lv_at hl 0 rfl) ?_
  refine pb_getN C in_X5 hObf (ci := 4) rfl 1 (by decide) q466 (fun _ h9 => h9) (v := .ref (spf)) rfl dX16_search_15 ?_
  refine pb_astore C dX16_search_18 hl (by decide) rfl fun ls hl => ?_
  have hl : lv_has ls 8 [(4, .ref (spf)), (3, .ref ((nV V f))), (0, .ref (c)), (1, .ref (a)), (2, .int (iZ (((f : Nat) : Int))))] := hl
  refine pb_ic C dX16_search_20 ?_
  refine pb_istore C dX16_search_21 hl (by decide) rfl fun ls hl => ?_
  have hl : lv_has ls 8 [(5, .int (iZ (0))), (4, .ref (spf)), (3, .ref ((nV V f))), (0, .ref (c)), (1, .ref (a)), (2, .int (iZ (((f : Nat) : Int))))] := hl
  refine pb_iload_n C dX16_search_23 rfl (lv_at hl 5 rfl) ?_
  refine pb_istore C dX16_search_24 hl (by decide) rfl fun ls hl => ?_
  have hl : lv_has ls 8 [(6, .int (iZ (((f : Nat) : Int)))), (5, .int (iZ (0))), (4, .ref (spf)), (3, .ref ((nV V f))), (0, .ref (c)), (1, .ref (a)), (2, .int (iZ (((f : Nat) : Int))))] := hl
  exact pb_V.mono (by omega) (by omega) (L26 _ 0 spf (bE L f) 0 s0 H0 rfl hG (by omega) rfl (hSpf.mono (fun q _ hq => hq.2)) hs9 (by omega) hO2 hFF ls (lv_sub hl [4, 5, 6, 3, 2, 1, 0] rfl))

set_option maxHeartbeats 1000000 in
theorem met_X16_init {w : pb_W} (l : Launch) {H0 : Heap} (c a : Nat) (P : Nat → Prop) (L : List Bnd) (hR : Rg w H0 P a L) (hPc : ¬ P c) (hL24 : L.length ≤ 24) (hrs : ∀ k, (-100000 ≤ (rsF L k).1 ∧ (rsF L k).1 ≤ 100000) ∧ (-100000 ≤ (rsF L k).2 ∧ (rsF L k).2 ≤ 100000)) (hcb : ∀ k f j E h q, seK L f (rsF L k) j = (E, h, q, true) → f + j < L.length → ∀ n, n ≤ E.length + (bE L (f + j)).length → (cmS 1 E (bE L (f + j)) n).2.2.2.length ≤ 64) (hcb9 : ∀ k f j E h q, seK L f (rsF L k) j = (E, h, q, true) → f + j < L.length → ∀ i, -100 ≤ eE (cmE 1 E (bE L (f + j))) i ∧ eE (cmE 1 E (bE L (f + j))) i ≤ 100) (hHj : ∀ k f j E h q, seK L f (rsF L k) j = (E, h, q, true) → (bd L (f + j)).1 = (bd L f).1 + h → f + j < L.length → -200 ≤ h + ((bd L (f + j)).2.1 - (bd L (f + j)).1) ∧ h + ((bd L (f + j)).2.1 - (bd L (f + j)).1) ≤ 200) (hzc : w.2.2.2 ≤ c) (hO2 : pb_O w H0 c 14 [.int (iZ 0), .int (iZ 0)]) : pb_M w l yX16_init cX16_init 3 none 5 (120 * L.length) (2928 * L.length) [.ref (c), .ref (a)] H0 (pb_qv (fun H1 => pb_O w H1 c 14 [.int (iZ (rsF L L.length).1), .int (iZ (rsF L L.length).2)] ∧ pb_F (fun q => q < H0.size ∧ q ≠ c) H0 H1)) := by
  refine pb_of (by decide +kernel) (Nat.le_of_ble_eq_true rfl) ?_
  intro p_ e_ s_ m_ ar_ bl_ me_ co_ ls C hh hG hl
  have hl : lv_has ls 3 [(0, .ref (c)), (1, .ref (a))] := hl
  have hzs := hG.1
  have hFF : pb_F (fun q => q < H0.size ∧ q ≠ c) H0 H0 := pb_F.rf
  have hR := hR.mono (fun q h9 (h : P q) => (⟨h9, fun e => hPc (e ▸ h)⟩ : q < H0.size ∧ q ≠ c))
  obtain ⟨t, V, hPa, hO, hLr, hVn, hBd⟩ := id hR
  obtain ⟨fsL_, hLo⟩ := hLr.o
  have hn9 := hLr.n
  have hrb := hR.rb
  have L6 : ∀ (n_ : Nat) (k : Nat) (H : Heap), L.length - k = n_ → (pb_G w s_ H) → (k ≤ L.length) → (pb_O w H c 14 [.int (iZ (rsF L k).1), .int (iZ (rsF L k).2)]) → (pb_F (fun q => q < H0.size ∧ q ≠ c) H0 H) → ∀ (ls : Array Slot), lv_has ls 3 [(0, .ref (c)), (1, .ref (a)), (2, .int (iZ (((k : Nat) : Int))))] → pb_V w.2.2.2 p_ l e_ (pb_rm 5 (120 * L.length) (2928 * L.length)) s_ m_ ar_ bl_ me_ co_ H (120 * (L.length - k)) (2928 * (L.length - k)) (pb_E w bl_ ar_ s_ (120 * L.length) (2928 * L.length) (pb_qv (fun H1 => pb_O w H1 c 14 [.int (iZ (rsF L L.length).1), .int (iZ (rsF L L.length).2)] ∧ pb_F (fun q => q < H0.size ∧ q ≠ c) H0 H1))) (F0 m_ 6 ls []) := by
    intro n_
    induction n_ using Nat.strongRecOn with
    | _ n_ ih6 =>
    intro k H hm_ hG hk hO2 hFF ls hl
    have hO := hO.kept (hFF.2 _ hO.lt hPa)
    refine pb_iload_n C dX16_init_6 rfl (lv_at hl 2 rfl) ?_
    refine pb_aload_n C dX16_init_7 rfl (lv_at hl 1 rfl) ?_
    refine pb_getN C in_X2 hO (ci := 1) rfl 0 (by decide) q138 (fun _ h9 => h9) (v := .ref (t)) rfl dX16_init_8 ?_
    obtain ⟨fsL_, hLo⟩ := (hLr.kept hFF).o
    refine pb_go_x (bc' := 120 * (L.length - k)) (bs' := 2928 * (L.length - k)) (pb_runF (n := 0) (rest := [.int (iZ (((k : Nat) : Int)))]) C hG (x := ⟨"java/util/List", "size", "()I"⟩) (met_J2_size l t _ V (hLr.kept hFF)) hLo (ci := 15) rfl (by decide) q1407 q444 q446 q54 q448 (by decide +kernel) rfl hl.1 rfl (Nat.le_of_ble_eq_true rfl) ⟨(Nat.le_of_ble_eq_true rfl), (Nat.le_of_ble_eq_true rfl)⟩ dX16_init_11) (by omega) (by omega) ?_
    refine pb_icmp_ge C dX16_init_16 (x := ((k : Nat) : Int)) (y := ((V.length : Nat) : Int)) (tgt := 31) (by decide) (by omega) (by omega) (fun c16_ => ?_) (fun c16_ => ?_)
    · exact pb_vret C dX16_init_31 (⟨rfl, by rw [show L.length = k from by omega]; exact hO2, hFF⟩)
    · refine pb_aload_n C dX16_init_19 rfl (lv_at hl 0 rfl) ?_
      refine pb_aload_n C dX16_init_20 rfl (lv_at hl 1 rfl) ?_
      refine pb_iload_n C dX16_init_21 rfl (lv_at hl 2 rfl) ?_
      have hz5 := hFF.1
      refine pb_go_v (bc' := 120 * (L.length - k) - 120) (bs' := 2928 * (L.length - k) - 2928) (pb_runV (rest := []) C hG (met_X16_search l c a _ L (hR.kept hFF) (fun h9 => h9.2 rfl) k (by omega) hL24 (rsF L k) (hrs k) (hcb k) (hcb9 k) (hHj k) hzc hO2) hO2.r (ci := 14) rfl (lw_V q1408 q1410 qs19 q89 q1411) ⟨rfl, hdX16_search⟩ rfl hl.1 rfl (Nat.le_of_ble_eq_true rfl) ⟨(Nat.le_of_ble_eq_true rfl), (Nat.le_of_ble_eq_true rfl)⟩ dX16_init_22) (by omega) (by omega) (fun H_ hp_ => ?_)
      obtain ⟨hO2, hF1⟩ := hp_
      have hG := hG.kept (hF1.mono (fun q hq9 (hq : q < w.2.2.2) => ⟨hq9, show q ≠ c from by omega⟩))
      have hFF := hFF.tr (hF1.mono (fun q _ hq => ⟨Nat.lt_of_lt_of_le hq.1 hz5, hq.2⟩))
      refine pb_iinc C dX16_init_25 hl (j := 2) (x := (((k : Nat) : Int))) rfl (by decide) rfl fun ls hl => ?_
      have hl : lv_has ls 3 [(2, .int (iZ ((((k + 1) : Nat) : Int)))), (0, .ref (c)), (1, .ref (a))] := hl
      refine pb_goto C dX16_init_28 (tgt := 6) (by decide) ?_
      exact pb_V.mono (by omega) (by omega) (ih6 _ (by omega) (k + 1) H_ rfl hG (by omega) hO2 hFF ls (lv_sub hl [1, 2, 0] rfl))
  refine pb_aload_n C dX16_init_0 rfl (lv_at hl 0 rfl) ?_
  refine pb_objInit C q1405 q99 q100 hl.1 ⟨(Nat.le_of_ble_eq_true rfl), (Nat.le_of_ble_eq_true rfl)⟩ dX16_init_1 ?_
  refine pb_ic C dX16_init_4 ?_
  refine pb_istore_n C dX16_init_5 rfl hl (by decide) rfl fun ls hl => ?_
  have hl : lv_has ls 3 [(2, .int (iZ (0))), (0, .ref (c)), (1, .ref (a))] := hl
  exact pb_V.mono (by omega) (by omega) (L6 _ 0 H0 rfl hG (by omega) hO2 hFF ls (lv_sub hl [1, 2, 0] rfl))

