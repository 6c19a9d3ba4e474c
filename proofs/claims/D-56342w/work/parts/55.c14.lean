set_option maxRecDepth 100000
set_option maxHeartbeats 1000000 in
theorem met_X7_init_X8 {w : pb_W} (l : Launch) {H0 : Heap} (c : Nat) : pb_M w l yX7_init cX7_init 1 none 1 (0) (0) [.ref (c)] H0 (pb_qv (fun H1 => H1 = H0)) := by
  refine pb_of (by decide +kernel) (Nat.le_of_ble_eq_true rfl) ?_
  intro p_ e_ s_ m_ ar_ bl_ me_ co_ ls C hh hG hl
  have hl : lv_has ls 1 [(0, .ref (c))] := hl
  refine pb_aload_n C dX7_init_0 rfl (lv_at hl 0 rfl) ?_
  refine pb_objInit C q499 q99 q100 hl.1 ⟨(Nat.le_of_ble_eq_true rfl), (Nat.le_of_ble_eq_true rfl)⟩ dX7_init_1 ?_
  exact pb_vret C dX7_init_4 (⟨rfl, rfl⟩)

set_option maxHeartbeats 1000000 in
theorem met_X8_init {w : pb_W} (l : Launch) {H0 : Heap} (c : Nat) : pb_M w l yX8_init cX8_init 1 none 2 (0) (0) [.ref (c)] H0 (pb_qv (fun H1 => H1 = H0)) := by
  refine pb_of (by decide +kernel) (Nat.le_of_ble_eq_true rfl) ?_
  intro p_ e_ s_ m_ ar_ bl_ me_ co_ ls C hh hG hl
  have hl : lv_has ls 1 [(0, .ref (c))] := hl
  refine pb_aload_n C dX8_init_0 rfl (lv_at hl 0 rfl) ?_
  refine pb_go_v (bc' := 0) (bs' := 0) (pb_runIN (rest := []) C hG (met_X7_init_X8 l c) q496 q497 q74 q498 rfl hdX7_init rfl hl.1 rfl (Nat.le_of_ble_eq_true rfl) ⟨(Nat.le_of_ble_eq_true rfl), (Nat.le_of_ble_eq_true rfl)⟩ dX8_init_1) (by omega) (by omega) (fun H_ hp_ => ?_)
  obtain rfl := hp_
  exact pb_vret C dX8_init_4 (⟨rfl, rfl⟩)

set_option maxHeartbeats 1000000 in
theorem met_X7_init_X9 {w : pb_W} (l : Launch) {H0 : Heap} (c : Nat) : pb_M w l yX7_init cX7_init 1 none 1 (0) (0) [.ref (c)] H0 (pb_qv (fun H1 => H1 = H0)) := by
  refine pb_of (by decide +kernel) (Nat.le_of_ble_eq_true rfl) ?_
  intro p_ e_ s_ m_ ar_ bl_ me_ co_ ls C hh hG hl
  have hl : lv_has ls 1 [(0, .ref (c))] := hl
  refine pb_aload_n C dX7_init_0 rfl (lv_at hl 0 rfl) ?_
  refine pb_objInit C q499 q99 q100 hl.1 ⟨(Nat.le_of_ble_eq_true rfl), (Nat.le_of_ble_eq_true rfl)⟩ dX7_init_1 ?_
  exact pb_vret C dX7_init_4 (⟨rfl, rfl⟩)

set_option maxHeartbeats 1000000 in
theorem met_X9_init {w : pb_W} (l : Launch) {H0 : Heap} (c : Nat) : pb_M w l yX9_init cX9_init 1 none 2 (0) (0) [.ref (c)] H0 (pb_qv (fun H1 => H1 = H0)) := by
  refine pb_of (by decide +kernel) (Nat.le_of_ble_eq_true rfl) ?_
  intro p_ e_ s_ m_ ar_ bl_ me_ co_ ls C hh hG hl
  have hl : lv_has ls 1 [(0, .ref (c))] := hl
  refine pb_aload_n C dX9_init_0 rfl (lv_at hl 0 rfl) ?_
  refine pb_go_v (bc' := 0) (bs' := 0) (pb_runIN (rest := []) C hG (met_X7_init_X9 l c) q1640 q497 q74 q498 rfl hdX7_init rfl hl.1 rfl (Nat.le_of_ble_eq_true rfl) ⟨(Nat.le_of_ble_eq_true rfl), (Nat.le_of_ble_eq_true rfl)⟩ dX9_init_1) (by omega) (by omega) (fun H_ hp_ => ?_)
  obtain rfl := hp_
  exact pb_vret C dX9_init_4 (⟨rfl, rfl⟩)

set_option maxHeartbeats 1000000 in
theorem met_X7_init_X17 {w : pb_W} (l : Launch) {H0 : Heap} (c : Nat) : pb_M w l yX7_init cX7_init 1 none 1 (0) (0) [.ref (c)] H0 (pb_qv (fun H1 => H1 = H0)) := by
  refine pb_of (by decide +kernel) (Nat.le_of_ble_eq_true rfl) ?_
  intro p_ e_ s_ m_ ar_ bl_ me_ co_ ls C hh hG hl
  have hl : lv_has ls 1 [(0, .ref (c))] := hl
  refine pb_aload_n C dX7_init_0 rfl (lv_at hl 0 rfl) ?_
  refine pb_objInit C q499 q99 q100 hl.1 ⟨(Nat.le_of_ble_eq_true rfl), (Nat.le_of_ble_eq_true rfl)⟩ dX7_init_1 ?_
  exact pb_vret C dX7_init_4 (⟨rfl, rfl⟩)

set_option maxHeartbeats 1000000 in
theorem met_X17_init {w : pb_W} (l : Launch) {H0 : Heap} (c : Nat) : pb_M w l yX17_init cX17_init 1 none 2 (0) (0) [.ref (c)] H0 (pb_qv (fun H1 => H1 = H0)) := by
  refine pb_of (by decide +kernel) (Nat.le_of_ble_eq_true rfl) ?_
  intro p_ e_ s_ m_ ar_ bl_ me_ co_ ls C hh hG hl
  have hl : lv_has ls 1 [(0, .ref (c))] := hl
  refine pb_aload_n C dX17_init_0 rfl (lv_at hl 0 rfl) ?_
  refine pb_go_v (bc' := 0) (bs' := 0) (pb_runIN (rest := []) C hG (met_X7_init_X17 l c) q1690 q497 q74 q498 rfl hdX7_init rfl hl.1 rfl (Nat.le_of_ble_eq_true rfl) ⟨(Nat.le_of_ble_eq_true rfl), (Nat.le_of_ble_eq_true rfl)⟩ dX17_init_1) (by omega) (by omega) (fun H_ hp_ => ?_)
  obtain rfl := hp_
  exact pb_vret C dX17_init_4 (⟨rfl, rfl⟩)

set_option maxHeartbeats 1000000 in
theorem met_X9_squares {w : pb_W} (l : Launch) {H : Heap} (x : Int) (hx : -100 ≤ x ∧ x ≤ 100) : pb_M w l yX9_squares cX9_squares 1 (some .int) 0 (0) (0) [.int (iZ (x))] H (pb_qx (.int (iZ (sqN x))) H) := by
  refine pb_of (by decide +kernel) (Nat.le_of_ble_eq_true rfl) ?_
  intro p_ e_ s_ m_ ar_ bl_ me_ co_ ls C hh hG hl
  have hl : lv_has ls 1 [(0, .int (iZ (x)))] := hl
  refine pb_iload_n C dX9_squares_0 rfl (lv_at hl 0 rfl) ?_
  refine pb_ic C dX9_squares_1 ?_
  refine pb_isub C dX9_squares_2 ?_
  refine pb_iload_n C dX9_squares_3 rfl (lv_at hl 0 rfl) ?_
  refine pb_imul C dX9_squares_4 ?_
  refine pb_ic C dX9_squares_5 ?_
  refine pb_iload_n C dX9_squares_6 rfl (lv_at hl 0 rfl) ?_
  refine pb_imul C dX9_squares_7 ?_
  refine pb_ic C dX9_squares_8 ?_
  refine pb_isub C dX9_squares_9 ?_
  refine pb_imul C dX9_squares_10 ?_
  refine pb_bip C dX9_squares_11 (by decide) ?_
  refine pb_idiv C dX9_squares_13 (x := (((x - 1) * x) * ((2 * x) - 1))) (y := 6) (by have h9 := sqP_rg hx; omega) (by omega) (by omega) ?_
  exact pb_iret C dX9_squares_14 (⟨rfl, rfl⟩)

set_option maxHeartbeats 1000000 in
theorem met_X7_visit_X8 {w : pb_W} (l : Launch) {H0 : Heap} (c : Nat) (v0 v1 l_ lo_ r_ hi_ : Int) (hz : w.2.2.2 ≤ c) (hO : pb_O w H0 c 5 [.int (iZ (v0)), .int (iZ (v1))]) : pb_M w l yX7_visit cX7_visit 5 none 0 (0) (0) [.ref (c), .int (iZ (l_)), .int (iZ (lo_)), .int (iZ (r_)), .int (iZ (hi_))] H0 (pb_qv (fun H1 => pb_O w H1 c 5 [.int (iZ ((v0 + 1))), .int (iZ (v1))] ∧ pb_F (fun q => q ≠ c) H0 H1)) := by
  refine pb_of (by decide +kernel) (Nat.le_of_ble_eq_true rfl) ?_
  intro p_ e_ s_ m_ ar_ bl_ me_ co_ ls C hh hG hl
  have hl : lv_has ls 5 [(0, .ref (c)), (1, .int (iZ (l_))), (2, .int (iZ (lo_))), (3, .int (iZ (r_))), (4, .int (iZ (hi_)))] := hl
  have hFF : pb_F (fun q => q ≠ c) H0 H0 := pb_F.rf
  refine pb_aload_n C dX7_visit_0 rfl (lv_at hl 0 rfl) ?_
  refine pb_dup C dX7_visit_1 rfl ?_
  refine pb_get C in_X8 hO.r (ci := 5) rfl 0 (by decide) q502 (fun _ h9 => h9) (v := .int (iZ (v0))) rfl dX7_visit_2 ?_
  refine pb_ic C dX7_visit_5 ?_
  refine pb_iadd C dX7_visit_6 ?_
  refine pb_put C in_X8 tyX8 tyX8_ok nmX8 hO (ci := 5) rfl 0 (by decide) q502 (fun _ h9 => h9) rfl (v := .int (iZ ((v0 + 1)))) rfl rfl (Nat.le_of_ble_eq_true rfl) (by omega) dX7_visit_7 fun H1_ hu_ hO => ?_
  have hO : pb_O w H1_ (c) 5 [.int (iZ ((v0 + 1))), .int (iZ (v1))] := hO
  have hG := hG.kept (hu_.z (by omega))
  have hs_H1_ := hu_.1
  have hFF := hFF.tr (hu_.f)
  exact pb_vret C dX7_visit_10 (⟨rfl, hO, hFF⟩)

set_option maxHeartbeats 1000000 in
theorem met_X8_visit {w : pb_W} (l : Launch) {H0 : Heap} (c : Nat) (v0 v1 l_ lo_ r_ hi_ : Int) (hl9 : -100 ≤ l_ ∧ l_ ≤ 100) (hr9 : -100 ≤ r_ ∧ r_ ≤ 100) (hlo9 : -100 ≤ lo_ ∧ lo_ ≤ 100) (hhi9 : -100 ≤ hi_ ∧ hi_ ≤ 100) (hz : w.2.2.2 ≤ c) (hO : pb_O w H0 c 5 [.int (iZ (v0)), .int (iZ (v1))]) : pb_M w l yX8_visit cX8_visit 5 none 1 (0) (0) [.ref (c), .int (iZ (l_)), .int (iZ (lo_)), .int (iZ (r_)), .int (iZ (hi_))] H0 (pb_qv (fun H1 => pb_O w H1 c 5 [.int (iZ ((arS (v0, v1) l_ lo_ r_ hi_).1)), .int (iZ ((arS (v0, v1) l_ lo_ r_ hi_).2))] ∧ pb_F (fun q => q ≠ c) H0 H1)) := by
  refine pb_of (by decide +kernel) (Nat.le_of_ble_eq_true rfl) ?_
  intro p_ e_ s_ m_ ar_ bl_ me_ co_ ls C hh hG hl
  have hl : lv_has ls 5 [(0, .ref (c)), (1, .int (iZ (l_))), (2, .int (iZ (lo_))), (3, .int (iZ (r_))), (4, .int (iZ (hi_)))] := hl
  have hFF : pb_F (fun q => q ≠ c) H0 H0 := pb_F.rf
  refine pb_aload_n C dX8_visit_0 rfl (lv_at hl 0 rfl) ?_
  refine pb_iload_n C dX8_visit_1 rfl (lv_at hl 1 rfl) ?_
  refine pb_iload_n C dX8_visit_2 rfl (lv_at hl 2 rfl) ?_
  refine pb_iload_n C dX8_visit_3 rfl (lv_at hl 3 rfl) ?_
  refine pb_iload C dX8_visit_4 (lv_at hl 4 rfl) ?_
  refine pb_go_v (bc' := 0) (bs' := 0) (pb_runSU (rest := []) C hG (met_X7_visit_X8 l c v0 v1 l_ lo_ r_ hi_ hz hO) hO.r (ci := 5) rfl q601 q597 q508 q596 q74 q602 (n := 4) ⟨by decide, by decide +kernel⟩ rfl hl.1 rfl (Nat.le_of_ble_eq_true rfl) ⟨(Nat.le_of_ble_eq_true rfl), (Nat.le_of_ble_eq_true rfl)⟩ dX8_visit_6) (by omega) (by omega) (fun H_ hp_ => ?_)
  obtain ⟨hO, hF1⟩ := hp_
  have hG := hG.kept (hF1.mono (fun q _ (hq : q < w.2.2.2) => show q ≠ _ from by omega))
  have hFF := hFF.tr hF1
  refine pb_aload_n C dX8_visit_9 rfl (lv_at hl 0 rfl) ?_
  refine pb_dup C dX8_visit_10 rfl ?_
  refine pb_get C in_X8 hO.r (ci := 5) rfl 1 (by decide) q500 (fun _ h9 => h9) (v := .int (iZ (v1))) rfl dX8_visit_11 ?_
  refine pb_iload_n C dX8_visit_14 rfl (lv_at hl 3 rfl) ?_
  refine pb_iload_n C dX8_visit_15 rfl (lv_at hl 1 rfl) ?_
  refine pb_isub C dX8_visit_16 ?_
  refine pb_iload C dX8_visit_17 (lv_at hl 4 rfl) ?_
  refine pb_iload_n C dX8_visit_19 rfl (lv_at hl 2 rfl) ?_
  refine pb_isub C dX8_visit_20 ?_
  refine pb_imul C dX8_visit_21 ?_
  refine pb_iadd C dX8_visit_22 ?_
  refine pb_put C in_X8 tyX8 tyX8_ok nmX8 hO (ci := 5) rfl 1 (by decide) q500 (fun _ h9 => h9) rfl (v := .int (iZ ((v1 + ((r_ - l_) * (hi_ - lo_)))))) rfl rfl (Nat.le_of_ble_eq_true rfl) (by omega) dX8_visit_23 fun H1_ hu_ hO => ?_
  have hO : pb_O w H1_ (c) 5 [.int (iZ ((v0 + 1))), .int (iZ ((v1 + ((r_ - l_) * (hi_ - lo_)))))] := hO
  have hG := hG.kept (hu_.z (by omega))
  have hs_H1_ := hu_.1
  have hFF := hFF.tr (hu_.f)
  exact pb_vret C dX8_visit_26 (⟨rfl, hO, hFF⟩)

set_option maxHeartbeats 1000000 in
theorem met_X7_scan_X8 {w : pb_W} (l : Launch) {H0 : Heap} (c a : Nat) (P : Nat → Prop) (L : List Bnd) (hR : Rg w H0 P a L) (hPc : ¬ P c) (hb9 : ∀ j i, -100 ≤ eE (bE L j) i ∧ eE (bE L j) i ≤ 100) (hh9 : ∀ j, (-100 ≤ (bd L j).1 ∧ (bd L j).1 ≤ 100) ∧ (-100 ≤ (bd L j).2.1 ∧ (bd L j).2.1 ≤ 100)) (s0 : Int × Int) (hzc : w.2.2.2 ≤ c) (hO2 : pb_O w H0 c 5 [.int (iZ (s0.1)), .int (iZ (s0.2))]) : pb_M w l yX7_scan cX7_scan 5 none 3 (1) (4) [.ref (c), .ref (a)] H0 (pb_qv (fun H1 => pb_O w H1 c 5 [.int (iZ ((scL arS L s0 L.length).1)), .int (iZ ((scL arS L s0 L.length).2))] ∧ pb_F (fun q => q < H0.size ∧ q ≠ c) H0 H1)) := by
  refine pb_of (by decide +kernel) (Nat.le_of_ble_eq_true rfl) ?_
  intro p_ e_ s_ m_ ar_ bl_ me_ co_ ls C hh hG hl
  have hl : lv_has ls 5 [(0, .ref (c)), (1, .ref (a))] := hl
  have hzs := hG.1
  have hFF : pb_F (fun q => q < H0.size ∧ q ≠ c) H0 H0 := pb_F.rf
  have hclt := hO2.lt
  have hR := hR.mono (fun q h9 (h : P q) => (⟨h9, fun e => hPc (e ▸ h)⟩ : q < H0.size ∧ q ≠ c))
  obtain ⟨t, V, hPa, hO, hLr, hVn, hBd⟩ := id hR
  obtain ⟨fsL_, hLo⟩ := hLr.o
  have hn9 := hLr.n
  have hrb := hR.rb
  have L10 : ∀ (n_ : Nat) (k it : Nat) (H : Heap), V.length - k = n_ → (pb_G w s_ H) → (k ≤ V.length) → (H0.size ≤ it) → (It w H it t k V.length) → (pb_F (fun q => q < H0.size ∧ q ≠ c) H0 H) → (pb_O w H c 5 [.int (iZ ((scL arS L s0 k).1)), .int (iZ ((scL arS L s0 k).2))]) → (it ≠ c) → ∀ (ls : Array Slot), lv_has ls 5 [(0, .ref (c)), (2, .ref (it))] → pb_V w.2.2.2 p_ l e_ (pb_rm 3 (1) (4)) s_ m_ ar_ bl_ me_ co_ H (0) (0) (pb_E w bl_ ar_ s_ (1) (4) (pb_qv (fun H1 => pb_O w H1 c 5 [.int (iZ ((scL arS L s0 L.length).1)), .int (iZ ((scL arS L s0 L.length).2))] ∧ pb_F (fun q => q < H0.size ∧ q ≠ c) H0 H1))) (F0 m_ 10 ls []) := by
    intro n_
    induction n_ using Nat.strongRecOn with
    | _ n_ ih10 =>
    intro k it H hm_ hG hk hit hI hFF hO2 hitc ls hl
    obtain ⟨fsI_, hIo⟩ := hI.o
    have L32 : ∀ (n_ : Nat) (j : Nat) (H : Heap), (bE L k).length / 2 - j = n_ → (pb_G w s_ H) → (j ≤ (bE L k).length / 2) → (k < V.length) → (It w H it t (k + 1) V.length) → (pb_O w H c 5 [.int (iZ ((scE arS (bd L k).1 (bd L k).2.1 (bE L k) (scL arS L s0 k) j).1)), .int (iZ ((scE arS (bd L k).1 (bd L k).2.1 (bE L k) (scL arS L s0 k) j).2))]) → (pb_F (fun q => q < H0.size ∧ q ≠ c) H0 H) → ∀ (ls : Array Slot), lv_has ls 5 [(0, .ref (c)), (2, .ref (it)), (3, .ref ((nV V k))), (4, .int (iZ (((j : Nat) : Int))))] → pb_V w.2.2.2 p_ l e_ (pb_rm 3 (1) (4)) s_ m_ ar_ bl_ me_ co_ H (0) (0) (pb_E w bl_ ar_ s_ (1) (4) (pb_qv (fun H1 => pb_O w H1 c 5 [.int (iZ ((scL arS L s0 L.length).1)), .int (iZ ((scL arS L s0 L.length).2))] ∧ pb_F (fun q => q < H0.size ∧ q ≠ c) H0 H1))) (F0 m_ 32 ls []) := by
      intro n_
      induction n_ using Nat.strongRecOn with
      | _ n_ ih32 =>
      intro j H hm_ hG hj hkV hI hO2 hFF ls hl
      obtain ⟨hPb, sp, hOb, hSp, hb1, hb2⟩ := (hBd k (by omega)).kept hFF
      obtain ⟨fsp_, hSo⟩ := hSp.o
      have hl64 : (bE L k).length ≤ 64 := hSp.rg.2
      refine pb_iload C dX7_scan_32 (lv_at hl 3 rfl) ?_
      refine pb_aload_n C dX7_scan_34 rfl (lv_at hl 2 rfl) ?_
      refine pb_getN C in_X5 hOb (ci := 4) rfl 1 (by decide) q467 (fun _ h9 => h9) (v := .ref (sp)) rfl dX7_scan_35 ?_
      refine pb_go_x (bc' := 0) (bs' := 0) (pb_runV (rest := [.int (iZ (((j : Nat) : Int)))]) C hG (met_X4_size l sp _ (bE L k) hSp) hSo (ci := 3) rfl (lw_V q586 q428 q429 q70 q430) ⟨rfl, hdX4_size⟩ rfl hl.1 rfl (Nat.le_of_ble_eq_true rfl) ⟨(Nat.le_of_ble_eq_true rfl), (Nat.le_of_ble_eq_true rfl)⟩ dX7_scan_38) (by omega) (by omega) ?_
      refine pb_icmp_ge C dX7_scan_41 (x := ((j : Nat) : Int)) (y := ((((bE L k).length / 2) : Nat) : Int)) (tgt := 80) (by decide) (by omega) (by omega) (fun c41_ => ?_) (fun c41_ => ?_)
      · have hj9 : j = (bE L k).length / 2 := by omega
        refine pb_goto C dX7_scan_80 (tgt := 10) (by decide) ?_
        exact pb_V.mono (by omega) (by omega) (ih10 _ (by omega) (k + 1) it H rfl hG (by omega) (by omega) hI hFF (by rw [scL, ← hj9]; exact hO2) hitc ls (lv_sub hl [0, 1] rfl))
      · refine pb_aload_n C dX7_scan_44 rfl (lv_at hl 0 rfl) ?_
        refine pb_aload_n C dX7_scan_45 rfl (lv_at hl 2 rfl) ?_
        refine pb_getN C in_X5 hOb (ci := 4) rfl 1 (by decide) q467 (fun _ h9 => h9) (v := .ref (sp)) rfl dX7_scan_46 ?_
        refine pb_iload C dX7_scan_49 (lv_at hl 3 rfl) ?_
        refine pb_go_x (bc' := 0) (bs' := 0) (pb_runV (rest := [.ref (c)]) C hG (met_X4_left l sp _ (bE L k) hSp j (by omega)) hSo (ci := 3) rfl (lw_V q587 q588 q589 q70 q590) ⟨rfl, hdX4_left⟩ rfl hl.1 rfl (Nat.le_of_ble_eq_true rfl) ⟨(Nat.le_of_ble_eq_true rfl), (Nat.le_of_ble_eq_true rfl)⟩ dX7_scan_51) (by omega) (by omega) ?_
        refine pb_aload_n C dX7_scan_54 rfl (lv_at hl 2 rfl) ?_
        refine pb_getN C in_X5 hOb (ci := 4) rfl 0 (by decide) q462 (fun _ h9 => h9) (v := .int (iZ ((bd L k).1))) rfl dX7_scan_55 ?_
        refine pb_aload_n C dX7_scan_58 rfl (lv_at hl 2 rfl) ?_
        refine pb_getN C in_X5 hOb (ci := 4) rfl 1 (by decide) q467 (fun _ h9 => h9) (v := .ref (sp)) rfl dX7_scan_59 ?_
        refine pb_iload C dX7_scan_62 (lv_at hl 3 rfl) ?_
        refine pb_go_x (bc' := 0) (bs' := 0) (pb_runV (rest := [.int (iZ ((bd L k).1)), .int (iZ ((eE (bE L k) (2 * j)))), .ref (c)]) C hG (met_X4_right l sp _ (bE L k) hSp j (by omega)) hSo (ci := 3) rfl (lw_V q591 q592 q593 q70 q594) ⟨rfl, hdX4_right⟩ rfl hl.1 rfl (Nat.le_of_ble_eq_true rfl) ⟨(Nat.le_of_ble_eq_true rfl), (Nat.le_of_ble_eq_true rfl)⟩ dX7_scan_64) (by omega) (by omega) ?_
        refine pb_aload_n C dX7_scan_67 rfl (lv_at hl 2 rfl) ?_
        refine pb_getN C in_X5 hOb (ci := 4) rfl 2 (by decide) q470 (fun _ h9 => h9) (v := .int (iZ ((bd L k).2.1))) rfl dX7_scan_68 ?_
        refine pb_go_v (bc' := 0) (bs' := 0) (pb_runO (rest := []) C hG (met_X8_visit l c (scE arS (bd L k).1 (bd L k).2.1 (bE L k) (scL arS L s0 k) j).1 (scE arS (bd L k).1 (bd L k).2.1 (bE L k) (scL arS L s0 k) j).2 (eE (bE L k) (2 * j)) (bd L k).1 (eE (bE L k) (2 * j + 1)) (bd L k).2.1 (hb9 k _) (hb9 k _) (hh9 k).1 (hh9 k).2 hzc hO2) (x := ⟨"PolygonBoard$Scan", "visit", "(IIII)V"⟩) (owner := "PolygonBoard$Scan") hO2.r (ci := 5) rfl q595 q597 q596 q602 q598 q599 q75 q600 (n := 4) ⟨by decide, by decide, by decide +kernel⟩ rfl hl.1 rfl (Nat.le_of_ble_eq_true rfl) ⟨(Nat.le_of_ble_eq_true rfl), (Nat.le_of_ble_eq_true rfl)⟩ dX7_scan_71) (by omega) (by omega) (fun H_ hp_ => ?_)
        obtain ⟨hO2, hF1⟩ := hp_
        have hG := hG.kept (hF1.mono (fun q _ (hq : q < w.2.2.2) => show q ≠ _ from by omega))
        have hI := hI.up2 hF1 hitc
        have hFF := hFF.tr (hF1.mono (fun q _ hq => hq.2))
        refine pb_iinc C dX7_scan_74 hl (j := 3) (x := (((j : Nat) : Int))) rfl (by decide) rfl fun ls hl => ?_
        have hl : lv_has ls 5 [(4, .int (iZ ((((j + 1) : Nat) : Int)))), (0, .ref (c)), (2, .ref (it)), (3, .ref ((nV V k)))] := hl
        refine pb_goto C dX7_scan_77 (tgt := 32) (by decide) ?_
        exact pb_V.mono (by omega) (by omega) (ih32 _ (by omega) (j + 1) H_ rfl hG (by omega) (by omega) hI hO2 hFF ls (lv_sub hl [1, 2, 3, 0] rfl))
    refine pb_aload_n C dX7_scan_10 rfl (lv_at hl 1 rfl) ?_
    refine pb_go_x (bc' := 0) (bs' := 0) (pb_runF (n := 0) (rest := []) C hG (x := ⟨"java/util/Iterator", "hasNext", "()Z"⟩) (met_J15_hasNext l it t k _ V hI (hLr.kept hFF) (by omega)) hIo (ci := 16) rfl (by decide) q548 q552 q554 q76 q556 (by decide +kernel) rfl hl.1 rfl (Nat.le_of_ble_eq_true rfl) ⟨(Nat.le_of_ble_eq_true rfl), (Nat.le_of_ble_eq_true rfl)⟩ dX7_scan_11) (by omega) (by omega) ?_
    refine pb_ifB_eq C dX7_scan_16 (tgt := 83) (by decide) (fun c16_ => ?_) (fun c16_ => ?_)
    · have c16_ := of_decide_eq_false c16_
      exact pb_vret C dX7_scan_83 (⟨rfl, by rw [show L.length = k from by omega]; exact hO2, hFF⟩)
    · have c16_ := of_decide_eq_true c16_
      refine pb_aload_n C dX7_scan_19 rfl (lv_at hl 1 rfl) ?_
      refine pb_go_r (bc' := 0) (bs' := 0) (pb_runF (n := 0) (rest := []) C hG (x := ⟨"java/util/Iterator", "next", "()Ljava/lang/Object;"⟩) (met_J15_next l it t k _ V hI (hLr.kept hFF) (by omega) (fun h9 => absurd (show it < H0.size from h9.1) (by omega)) (by omega)) hIo (ci := 16) rfl (by decide) q558 q561 q563 q76 q565 (by decide +kernel) rfl hl.1 rfl (Nat.le_of_ble_eq_true rfl) ⟨(Nat.le_of_ble_eq_true rfl), (Nat.le_of_ble_eq_true rfl)⟩ dX7_scan_20) (by omega) (by omega) (fun b_ H_ hp_ => ?_)
      obtain ⟨rfl, hI, hF1⟩ := hp_
      have hG := hG.kept (hF1.mono (fun q _ (hq : q < w.2.2.2) => show q ≠ _ from by omega))
      have hFF := hFF.tr (hF1.mono (fun q _ hq => (show q ≠ _ from by have := hq.1; omega)))
      obtain ⟨hPb, sp, hOb, hSp, hb1, hb2⟩ := (hBd k (by omega)).kept hFF
      obtain ⟨fsp_, hSo⟩ := hSp.o
      have hrgp := hSp.rg
      have hO2 := hO2.kept (hF1.2 _ hO2.lt (Ne.symm hitc))
      have hl64 : (bE L k).length ≤ 64 := hrgp.2
      refine pb_cast C hOb (ci := 4) rfl q585 dX7_scan_25 ?_
      refine pb_astore_n C dX7_scan_28 rfl hl (by decide) rfl fun ls hl => ?_
      have hl : lv_has ls 5 [(3, .ref ((nV V k))), (0, .ref (c)), (2, .ref (it))] := hl
      refine pb_ic C dX7_scan_29 ?_
      refine pb_istore C dX7_scan_30 hl (by decide) rfl fun ls hl => ?_
      have hl : lv_has ls 5 [(4, .int (iZ (0))), (3, .ref ((nV V k))), (0, .ref (c)), (2, .ref (it))] := hl
      exact pb_V.mono (by omega) (by omega) (L32 _ 0 H_ rfl hG (by omega) (by omega) hI hO2 hFF ls (lv_sub hl [2, 3, 1, 0] rfl))
  refine pb_aload_n C dX7_scan_0 rfl (lv_at hl 1 rfl) ?_
  refine pb_getN C in_X2 hO (ci := 1) rfl 0 (by decide) q140 (fun _ h9 => h9) (v := .ref (t)) rfl dX7_scan_1 ?_
  obtain ⟨fsL9_, hLo9⟩ := (hLr.kept hFF).o
  refine pb_go_r (bc' := 0) (bs' := 0) (pb_runF (n := 0) (rest := []) C hG (x := ⟨"java/util/List", "iterator", "()Ljava/util/Iterator;"⟩) (met_J2_iterator l t _ V (hLr.kept hFF)) hLo9 (ci := 15) rfl (by decide) q520 q523 q525 q54 q527 (by decide +kernel) rfl hl.1 rfl (Nat.le_of_ble_eq_true rfl) ⟨(Nat.le_of_ble_eq_true rfl), (Nat.le_of_ble_eq_true rfl)⟩ dX7_scan_4) (by omega) (by omega) (fun it H_ hp_ => ?_)
  obtain ⟨hit, hI, hF1⟩ := hp_
  have hz4 := hFF.1
  have hG := hG.kept (hF1.mono (fun _ _ _ => trivial))
  have hFF := hFF.tr (hF1.mono (fun _ _ _ => trivial))
  have hitc : it ≠ c := by have := hO2.lt; omega
  have hO2 := hO2.kept (hF1.2 _ hO2.lt trivial)
  refine pb_astore_n C dX7_scan_9 rfl hl (by decide) rfl fun ls hl => ?_
  have hl : lv_has ls 5 [(2, .ref (it)), (0, .ref (c)), (1, .ref (a))] := hl
  exact pb_V.mono (by omega) (by omega) (L10 _ 0 it H_ rfl hG (by omega) (by omega) hI hFF hO2 hitc ls (lv_sub hl [1, 0] rfl))

set_option maxHeartbeats 1000000 in
theorem met_X7_visit_X9 {w : pb_W} (l : Launch) {H0 : Heap} (c : Nat) (v0 v1 l_ lo_ r_ hi_ : Int) (hz : w.2.2.2 ≤ c) (hO : pb_O w H0 c 6 [.int (iZ (v0)), .long (lZ (v1))]) : pb_M w l yX7_visit cX7_visit 5 none 0 (0) (0) [.ref (c), .int (iZ (l_)), .int (iZ (lo_)), .int (iZ (r_)), .int (iZ (hi_))] H0 (pb_qv (fun H1 => pb_O w H1 c 6 [.int (iZ ((v0 + 1))), .long (lZ (v1))] ∧ pb_F (fun q => q ≠ c) H0 H1)) := by
  refine pb_of (by decide +kernel) (Nat.le_of_ble_eq_true rfl) ?_
  intro p_ e_ s_ m_ ar_ bl_ me_ co_ ls C hh hG hl
  have hl : lv_has ls 5 [(0, .ref (c)), (1, .int (iZ (l_))), (2, .int (iZ (lo_))), (3, .int (iZ (r_))), (4, .int (iZ (hi_)))] := hl
  have hFF : pb_F (fun q => q ≠ c) H0 H0 := pb_F.rf
  refine pb_aload_n C dX7_visit_0 rfl (lv_at hl 0 rfl) ?_
  refine pb_dup C dX7_visit_1 rfl ?_
  refine pb_get C in_X9 hO.r (ci := 6) rfl 0 (by decide) q502 (fun _ h9 => h9) (v := .int (iZ (v0))) rfl dX7_visit_2 ?_
  refine pb_ic C dX7_visit_5 ?_
  refine pb_iadd C dX7_visit_6 ?_
  refine pb_put C in_X9 tyX9 tyX9_ok nmX9 hO (ci := 6) rfl 0 (by decide) q502 (fun _ h9 => h9) rfl (v := .int (iZ ((v0 + 1)))) rfl rfl (Nat.le_of_ble_eq_true rfl) (by omega) dX7_visit_7 fun H1_ hu_ hO => ?_
  have hO : pb_O w H1_ (c) 6 [.int (iZ ((v0 + 1))), .long (lZ (v1))] := hO
  have hG := hG.kept (hu_.z (by omega))
  have hs_H1_ := hu_.1
  have hFF := hFF.tr (hu_.f)
  exact pb_vret C dX7_visit_10 (⟨rfl, hO, hFF⟩)

set_option maxHeartbeats 1000000 in
theorem met_X9_visit {w : pb_W} (l : Launch) {H0 : Heap} (c : Nat) (v0 v1 l_ lo_ r_ hi_ : Int) (hl9 : -100 ≤ l_ ∧ l_ ≤ 100) (hr9 : -100 ≤ r_ ∧ r_ ≤ 100) (hlo9 : -100 ≤ lo_ ∧ lo_ ≤ 100) (hhi9 : -100 ≤ hi_ ∧ hi_ ≤ 100) (hz : w.2.2.2 ≤ c) (hO : pb_O w H0 c 6 [.int (iZ (v0)), .long (lZ (v1))]) : pb_M w l yX9_visit cX9_visit 5 none 1 (0) (0) [.ref (c), .int (iZ (l_)), .int (iZ (lo_)), .int (iZ (r_)), .int (iZ (hi_))] H0 (pb_qv (fun H1 => pb_O w H1 c 6 [.int (iZ ((moS (v0, v1) l_ lo_ r_ hi_).1)), .long (lZ ((moS (v0, v1) l_ lo_ r_ hi_).2))] ∧ pb_F (fun q => q ≠ c) H0 H1)) := by
  refine pb_of (by decide +kernel) (Nat.le_of_ble_eq_true rfl) ?_
  intro p_ e_ s_ m_ ar_ bl_ me_ co_ ls C hh hG hl
  have hl : lv_has ls 5 [(0, .ref (c)), (1, .int (iZ (l_))), (2, .int (iZ (lo_))), (3, .int (iZ (r_))), (4, .int (iZ (hi_)))] := hl
  have hFF : pb_F (fun q => q ≠ c) H0 H0 := pb_F.rf
  refine pb_aload_n C dX9_visit_0 rfl (lv_at hl 0 rfl) ?_
  refine pb_iload_n C dX9_visit_1 rfl (lv_at hl 1 rfl) ?_
  refine pb_iload_n C dX9_visit_2 rfl (lv_at hl 2 rfl) ?_
  refine pb_iload_n C dX9_visit_3 rfl (lv_at hl 3 rfl) ?_
  refine pb_iload C dX9_visit_4 (lv_at hl 4 rfl) ?_
  refine pb_go_v (bc' := 0) (bs' := 0) (pb_runSU (rest := []) C hG (met_X7_visit_X9 l c v0 v1 l_ lo_ r_ hi_ hz hO) hO.r (ci := 6) rfl q611 q597 q612 q596 q74 q602 (n := 4) ⟨by decide, by decide +kernel⟩ rfl hl.1 rfl (Nat.le_of_ble_eq_true rfl) ⟨(Nat.le_of_ble_eq_true rfl), (Nat.le_of_ble_eq_true rfl)⟩ dX9_visit_6) (by omega) (by omega) (fun H_ hp_ => ?_)
  obtain ⟨hO, hF1⟩ := hp_
  have hG := hG.kept (hF1.mono (fun q _ (hq : q < w.2.2.2) => show q ≠ _ from by omega))
  have hFF := hFF.tr hF1
  refine pb_aload_n C dX9_visit_9 rfl (lv_at hl 0 rfl) ?_
  refine pb_dup C dX9_visit_10 rfl ?_
  refine pb_get C in_X9 hO.r (ci := 6) rfl 1 (by decide) q1641 (fun _ h9 => h9) (v := .long (lZ (v1))) rfl dX9_visit_11 ?_
  refine pb_iload_n C dX9_visit_14 rfl (lv_at hl 3 rfl) ?_
  refine pb_go_x (bc' := 0) (bs' := 0) (pb_runS (rest := [.long (lZ (v1)), .ref (c)]) C hG (met_X9_squares l r_ (by omega)) (lw_S q613 q614 q78 q615) hdX9_squares rfl hl.1 rfl (Nat.le_of_ble_eq_true rfl) ⟨(Nat.le_of_ble_eq_true rfl), (Nat.le_of_ble_eq_true rfl)⟩ dX9_visit_15) (by omega) (by omega) ?_
  refine pb_iload_n C dX9_visit_18 rfl (lv_at hl 1 rfl) ?_
  refine pb_go_x (bc' := 0) (bs' := 0) (pb_runS (rest := [.int (iZ ((sqN r_))), .long (lZ (v1)), .ref (c)]) C hG (met_X9_squares l l_ (by omega)) (lw_S q613 q614 q78 q615) hdX9_squares rfl hl.1 rfl (Nat.le_of_ble_eq_true rfl) ⟨(Nat.le_of_ble_eq_true rfl), (Nat.le_of_ble_eq_true rfl)⟩ dX9_visit_19) (by omega) (by omega) ?_
  refine pb_isub C dX9_visit_22 ?_
  refine pb_i2l C dX9_visit_23 (x := ((sqN r_) - (sqN l_))) (by have q1 := sqN_rg hl9; have q2 := sqN_rg hr9; have q3 := sqN_rg hlo9; have q4 := sqN_rg hhi9; omega) ?_
  refine pb_iload C dX9_visit_24 (lv_at hl 4 rfl) ?_
  refine pb_iload_n C dX9_visit_26 rfl (lv_at hl 2 rfl) ?_
  refine pb_isub C dX9_visit_27 ?_
  refine pb_i2l C dX9_visit_28 (x := (hi_ - lo_)) (by have q1 := sqN_rg hl9; have q2 := sqN_rg hr9; have q3 := sqN_rg hlo9; have q4 := sqN_rg hhi9; omega) ?_
  refine pb_lmul C dX9_visit_29 ?_
  refine pb_ladd C dX9_visit_30 ?_
  refine pb_put C in_X9 tyX9 tyX9_ok nmX9 hO (ci := 6) rfl 1 (by decide) q1641 (fun _ h9 => h9) rfl (v := .long (lZ ((v1 + (((sqN r_) - (sqN l_)) * (hi_ - lo_)))))) rfl rfl (Nat.le_of_ble_eq_true rfl) (by omega) dX9_visit_31 fun H1_ hu_ hO => ?_
  have hO : pb_O w H1_ (c) 6 [.int (iZ ((v0 + 1))), .long (lZ ((v1 + (((sqN r_) - (sqN l_)) * (hi_ - lo_)))))] := hO
  have hG := hG.kept (hu_.z (by omega))
  have hs_H1_ := hu_.1
  have hFF := hFF.tr (hu_.f)
  refine pb_aload_n C dX9_visit_34 rfl (lv_at hl 0 rfl) ?_
  refine pb_dup C dX9_visit_35 rfl ?_
  refine pb_get C in_X9 hO.r (ci := 6) rfl 1 (by decide) q1641 (fun _ h9 => h9) (v := .long (lZ ((v1 + (((sqN r_) - (sqN l_)) * (hi_ - lo_)))))) rfl dX9_visit_36 ?_
  refine pb_iload C dX9_visit_39 (lv_at hl 4 rfl) ?_
  refine pb_go_x (bc' := 0) (bs' := 0) (pb_runS (rest := [.long (lZ ((v1 + (((sqN r_) - (sqN l_)) * (hi_ - lo_))))), .ref (c)]) C hG (met_X9_squares l hi_ (by omega)) (lw_S q613 q614 q78 q615) hdX9_squares rfl hl.1 rfl (Nat.le_of_ble_eq_true rfl) ⟨(Nat.le_of_ble_eq_true rfl), (Nat.le_of_ble_eq_true rfl)⟩ dX9_visit_41) (by omega) (by omega) ?_
  refine pb_iload_n C dX9_visit_44 rfl (lv_at hl 2 rfl) ?_
  refine pb_go_x (bc' := 0) (bs' := 0) (pb_runS (rest := [.int (iZ ((sqN hi_))), .long (lZ ((v1 + (((sqN r_) - (sqN l_)) * (hi_ - lo_))))), .ref (c)]) C hG (met_X9_squares l lo_ (by omega)) (lw_S q613 q614 q78 q615) hdX9_squares rfl hl.1 rfl (Nat.le_of_ble_eq_true rfl) ⟨(Nat.le_of_ble_eq_true rfl), (Nat.le_of_ble_eq_true rfl)⟩ dX9_visit_45) (by omega) (by omega) ?_
  refine pb_isub C dX9_visit_48 ?_
  refine pb_i2l C dX9_visit_49 (x := ((sqN hi_) - (sqN lo_))) (by have q1 := sqN_rg hl9; have q2 := sqN_rg hr9; have q3 := sqN_rg hlo9; have q4 := sqN_rg hhi9; omega) ?_
  refine pb_iload_n C dX9_visit_50 rfl (lv_at hl 3 rfl) ?_
  refine pb_iload_n C dX9_visit_51 rfl (lv_at hl 1 rfl) ?_
  refine pb_isub C dX9_visit_52 ?_
  refine pb_i2l C dX9_visit_53 (x := (r_ - l_)) (by have q1 := sqN_rg hl9; have q2 := sqN_rg hr9; have q3 := sqN_rg hlo9; have q4 := sqN_rg hhi9; omega) ?_
  refine pb_lmul C dX9_visit_54 ?_
  refine pb_ladd C dX9_visit_55 ?_
  refine pb_put C in_X9 tyX9 tyX9_ok nmX9 hO (ci := 6) rfl 1 (by decide) q1641 (fun _ h9 => h9) rfl (v := .long (lZ (((v1 + (((sqN r_) - (sqN l_)) * (hi_ - lo_))) + (((sqN hi_) - (sqN lo_)) * (r_ - l_)))))) rfl rfl (Nat.le_of_ble_eq_true rfl) (by omega) dX9_visit_56 fun H2_ hu_ hO => ?_
  have hO : pb_O w H2_ (c) 6 [.int (iZ ((v0 + 1))), .long (lZ (((v1 + (((sqN r_) - (sqN l_)) * (hi_ - lo_))) + (((sqN hi_) - (sqN lo_)) * (r_ - l_)))))] := hO
  have hG := hG.kept (hu_.z (by omega))
  have hs_H2_ := hu_.1
  have hFF := hFF.tr (hu_.f)
  exact pb_vret C dX9_visit_59 (⟨rfl, hO, hFF⟩)

set_option maxHeartbeats 1000000 in
theorem met_X7_scan_X9 {w : pb_W} (l : Launch) {H0 : Heap} (c a : Nat) (P : Nat → Prop) (L : List Bnd) (hR : Rg w H0 P a L) (hPc : ¬ P c) (hb9 : ∀ j i, -100 ≤ eE (bE L j) i ∧ eE (bE L j) i ≤ 100) (hh9 : ∀ j, (-100 ≤ (bd L j).1 ∧ (bd L j).1 ≤ 100) ∧ (-100 ≤ (bd L j).2.1 ∧ (bd L j).2.1 ≤ 100)) (s0 : Int × Int) (hzc : w.2.2.2 ≤ c) (hO2 : pb_O w H0 c 6 [.int (iZ (s0.1)), .long (lZ (s0.2))]) : pb_M w l yX7_scan cX7_scan 5 none 3 (1) (4) [.ref (c), .ref (a)] H0 (pb_qv (fun H1 => pb_O w H1 c 6 [.int (iZ ((scL moS L s0 L.length).1)), .long (lZ ((scL moS L s0 L.length).2))] ∧ pb_F (fun q => q < H0.size ∧ q ≠ c) H0 H1)) := by
  refine pb_of (by decide +kernel) (Nat.le_of_ble_eq_true rfl) ?_
  intro p_ e_ s_ m_ ar_ bl_ me_ co_ ls C hh hG hl
  have hl : lv_has ls 5 [(0, .ref (c)), (1, .ref (a))] := hl
  have hzs := hG.1
  have hFF : pb_F (fun q => q < H0.size ∧ q ≠ c) H0 H0 := pb_F.rf
  have hclt := hO2.lt
  have hR := hR.mono (fun q h9 (h : P q) => (⟨h9, fun e => hPc (e ▸ h)⟩ : q < H0.size ∧ q ≠ c))
  obtain ⟨t, V, hPa, hO, hLr, hVn, hBd⟩ := id hR
  obtain ⟨fsL_, hLo⟩ := hLr.o
  have hn9 := hLr.n
  have hrb := hR.rb
  have L10 : ∀ (n_ : Nat) (k it : Nat) (H : Heap), V.length - k = n_ → (pb_G w s_ H) → (k ≤ V.length) → (H0.size ≤ it) → (It w H it t k V.length) → (pb_F (fun q => q < H0.size ∧ q ≠ c) H0 H) → (pb_O w H c 6 [.int (iZ ((scL moS L s0 k).1)), .long (lZ ((scL moS L s0 k).2))]) → (it ≠ c) → ∀ (ls : Array Slot), lv_has ls 5 [(0, .ref (c)), (2, .ref (it))] → pb_V w.2.2.2 p_ l e_ (pb_rm 3 (1) (4)) s_ m_ ar_ bl_ me_ co_ H (0) (0) (pb_E w bl_ ar_ s_ (1) (4) (pb_qv (fun H1 => pb_O w H1 c 6 [.int (iZ ((scL moS L s0 L.length).1)), .long (lZ ((scL moS L s0 L.length).2))] ∧ pb_F (fun q => q < H0.size ∧ q ≠ c) H0 H1))) (F0 m_ 10 ls []) := by
    intro n_
    induction n_ using Nat.strongRecOn with
    | _ n_ ih10 =>
    intro k it H hm_ hG hk hit hI hFF hO2 hitc ls hl
    obtain ⟨fsI_, hIo⟩ := hI.o
    have L32 : ∀ (n_ : Nat) (j : Nat) (H : Heap), (bE L k).length / 2 - j = n_ → (pb_G w s_ H) → (j ≤ (bE L k).length / 2) → (k < V.length) → (It w H it t (k + 1) V.length) → (pb_O w H c 6 [.int (iZ ((scE moS (bd L k).1 (bd L k).2.1 (bE L k) (scL moS L s0 k) j).1)), .long (lZ ((scE moS (bd L k).1 (bd L k).2.1 (bE L k) (scL moS L s0 k) j).2))]) → (pb_F (fun q => q < H0.size ∧ q ≠ c) H0 H) → ∀ (ls : Array Slot), lv_has ls 5 [(0, .ref (c)), (2, .ref (it)), (3, .ref ((nV V k))), (4, .int (iZ (((j : Nat) : Int))))] → pb_V w.2.2.2 p_ l e_ (pb_rm 3 (1) (4)) s_ m_ ar_ bl_ me_ co_ H (0) (0) (pb_E w bl_ ar_ s_ (1) (4) (pb_qv (fun H1 => pb_O w H1 c 6 [.int (iZ ((scL moS L s0 L.length).1)), .long (lZ ((scL moS L s0 L.length).2))] ∧ pb_F (fun q => q < H0.size ∧ q ≠ c) H0 H1))) (F0 m_ 32 ls []) := by
      intro n_
      induction n_ using Nat.strongRecOn with
      | _ n_ ih32 =>
      intro j H hm_ hG hj hkV hI hO2 hFF ls hl
      obtain ⟨hPb, sp, hOb, hSp, hb1, hb2⟩ := (hBd k (by omega)).kept hFF
      obtain ⟨fsp_, hSo⟩ := hSp.o
      have hl64 : (bE L k).length ≤ 64 := hSp.rg.2
      refine pb_iload C dX7_scan_32 (lv_at hl 3 rfl) ?_
      refine pb_aload_n C dX7_scan_34 rfl (lv_at hl 2 rfl) ?_
      refine pb_getN C in_X5 hOb (ci := 4) rfl 1 (by decide) q467 (fun _ h9 => h9) (v := .ref (sp)) rfl dX7_scan_35 ?_
      refine pb_go_x (bc' := 0) (bs' := 0) (pb_runV (rest := [.int (iZ (((j : Nat) : Int)))]) C hG (met_X4_size l sp _ (bE L k) hSp) hSo (ci := 3) rfl (lw_V q586 q428 q429 q70 q430) ⟨rfl, hdX4_size⟩ rfl hl.1 rfl (Nat.le_of_ble_eq_true rfl) ⟨(Nat.le_of_ble_eq_true rfl), (Nat.le_of_ble_eq_true rfl)⟩ dX7_scan_38) (by omega) (by omega) ?_
      refine pb_icmp_ge C dX7_scan_41 (x := ((j : Nat) : Int)) (y := ((((bE L k).length / 2) : Nat) : Int)) (tgt := 80) (by decide) (by omega) (by omega) (fun c41_ => ?_) (fun c41_ => ?_)
      · have hj9 : j = (bE L k).length / 2 := by omega
        refine pb_goto C dX7_scan_80 (tgt := 10) (by decide) ?_
        exact pb_V.mono (by omega) (by omega) (ih10 _ (by omega) (k + 1) it H rfl hG (by omega) (by omega) hI hFF (by rw [scL, ← hj9]; exact hO2) hitc ls (lv_sub hl [0, 1] rfl))
      · refine pb_aload_n C dX7_scan_44 rfl (lv_at hl 0 rfl) ?_
        refine pb_aload_n C dX7_scan_45 rfl (lv_at hl 2 rfl) ?_
        refine pb_getN C in_X5 hOb (ci := 4) rfl 1 (by decide) q467 (fun _ h9 => h9) (v := .ref (sp)) rfl dX7_scan_46 ?_
        refine pb_iload C dX7_scan_49 (lv_at hl 3 rfl) ?_
        refine pb_go_x (bc' := 0) (bs' := 0) (pb_runV (rest := [.ref (c)]) C hG (met_X4_left l sp _ (bE L k) hSp j (by omega)) hSo (ci := 3) rfl (lw_V q587 q588 q589 q70 q590) ⟨rfl, hdX4_left⟩ rfl hl.1 rfl (Nat.le_of_ble_eq_true rfl) ⟨(Nat.le_of_ble_eq_true rfl), (Nat.le_of_ble_eq_true rfl)⟩ dX7_scan_51) (by omega) (by omega) ?_
        refine pb_aload_n C dX7_scan_54 rfl (lv_at hl 2 rfl) ?_
        refine pb_getN C in_X5 hOb (ci := 4) rfl 0 (by decide) q462 (fun _ h9 => h9) (v := .int (iZ ((bd L k).1))) rfl dX7_scan_55 ?_
        refine pb_aload_n C dX7_scan_58 rfl (lv_at hl 2 rfl) ?_
        refine pb_getN C in_X5 hOb (ci := 4) rfl 1 (by decide) q467 (fun _ h9 => h9) (v := .ref (sp)) rfl dX7_scan_59 ?_
        refine pb_iload C dX7_scan_62 (lv_at hl 3 rfl) ?_
        refine pb_go_x (bc' := 0) (bs' := 0) (pb_runV (rest := [.int (iZ ((bd L k).1)), .int (iZ ((eE (bE L k) (2 * j)))), .ref (c)]) C hG (met_X4_right l sp _ (bE L k) hSp j (by omega)) hSo (ci := 3) rfl (lw_V q591 q592 q593 q70 q594) ⟨rfl, hdX4_right⟩ rfl hl.1 rfl (Nat.le_of_ble_eq_true rfl) ⟨(Nat.le_of_ble_eq_true rfl), (Nat.le_of_ble_eq_true rfl)⟩ dX7_scan_64) (by omega) (by omega) ?_
        refine pb_aload_n C dX7_scan_67 rfl (lv_at hl 2 rfl) ?_
        refine pb_getN C in_X5 hOb (ci := 4) rfl 2 (by decide) q470 (fun _ h9 => h9) (v := .int (iZ ((bd L k).2.1))) rfl dX7_scan_68 ?_
        refine pb_go_v (bc' := 0) (bs' := 0) (pb_runO (rest := []) C hG (met_X9_visit l c (scE moS (bd L k).1 (bd L k).2.1 (bE L k) (scL moS L s0 k) j).1 (scE moS (bd L k).1 (bd L k).2.1 (bE L k) (scL moS L s0 k) j).2 (eE (bE L k) (2 * j)) (bd L k).1 (eE (bE L k) (2 * j + 1)) (bd L k).2.1 (hb9 k _) (hb9 k _) (hh9 k).1 (hh9 k).2 hzc hO2) (x := ⟨"PolygonBoard$Scan", "visit", "(IIII)V"⟩) (owner := "PolygonBoard$Scan") hO2.r (ci := 6) rfl q595 q597 q596 q602 q608 q609 q78 q610 (n := 4) ⟨by decide, by decide, by decide +kernel⟩ rfl hl.1 rfl (Nat.le_of_ble_eq_true rfl) ⟨(Nat.le_of_ble_eq_true rfl), (Nat.le_of_ble_eq_true rfl)⟩ dX7_scan_71) (by omega) (by omega) (fun H_ hp_ => ?_)
        obtain ⟨hO2, hF1⟩ := hp_
        have hG := hG.kept (hF1.mono (fun q _ (hq : q < w.2.2.2) => show q ≠ _ from by omega))
        have hI := hI.up2 hF1 hitc
        have hFF := hFF.tr (hF1.mono (fun q _ hq => hq.2))
        refine pb_iinc C dX7_scan_74 hl (j := 3) (x := (((j : Nat) : Int))) rfl (by decide) rfl fun ls hl => ?_
        have hl : lv_has ls 5 [(4, .int (iZ ((((j + 1) : Nat) : Int)))), (0, .ref (c)), (2, .ref (it)), (3, .ref ((nV V k)))] := hl
        refine pb_goto C dX7_scan_77 (tgt := 32) (by decide) ?_
        exact pb_V.mono (by omega) (by omega) (ih32 _ (by omega) (j + 1) H_ rfl hG (by omega) (by omega) hI hO2 hFF ls (lv_sub hl [1, 2, 3, 0] rfl))
    refine pb_aload_n C dX7_scan_10 rfl (lv_at hl 1 rfl) ?_
    refine pb_go_x (bc' := 0) (bs' := 0) (pb_runF (n := 0) (rest := []) C hG (x := ⟨"java/util/Iterator", "hasNext", "()Z"⟩) (met_J15_hasNext l it t k _ V hI (hLr.kept hFF) (by omega)) hIo (ci := 16) rfl (by decide) q548 q552 q554 q76 q556 (by decide +kernel) rfl hl.1 rfl (Nat.le_of_ble_eq_true rfl) ⟨(Nat.le_of_ble_eq_true rfl), (Nat.le_of_ble_eq_true rfl)⟩ dX7_scan_11) (by omega) (by omega) ?_
    refine pb_ifB_eq C dX7_scan_16 (tgt := 83) (by decide) (fun c16_ => ?_) (fun c16_ => ?_)
    · have c16_ := of_decide_eq_false c16_
      exact pb_vret C dX7_scan_83 (⟨rfl, by rw [show L.length = k from by omega]; exact hO2, hFF⟩)
    · have c16_ := of_decide_eq_true c16_
      refine pb_aload_n C dX7_scan_19 rfl (lv_at hl 1 rfl) ?_
      refine pb_go_r (bc' := 0) (bs' := 0) (pb_runF (n := 0) (rest := []) C hG (x := ⟨"java/util/Iterator", "next", "()Ljava/lang/Object;"⟩) (met_J15_next l it t k _ V hI (hLr.kept hFF) (by omega) (fun h9 => absurd (show it < H0.size from h9.1) (by omega)) (by omega)) hIo (ci := 16) rfl (by decide) q558 q561 q563 q76 q565 (by decide +kernel) rfl hl.1 rfl (Nat.le_of_ble_eq_true rfl) ⟨(Nat.le_of_ble_eq_true rfl), (Nat.le_of_ble_eq_true rfl)⟩ dX7_scan_20) (by omega) (by omega) (fun b_ H_ hp_ => ?_)
      obtain ⟨rfl, hI, hF1⟩ := hp_
      have hG := hG.kept (hF1.mono (fun q _ (hq : q < w.2.2.2) => show q ≠ _ from by omega))
      have hFF := hFF.tr (hF1.mono (fun q _ hq => (show q ≠ _ from by have := hq.1; omega)))
      obtain ⟨hPb, sp, hOb, hSp, hb1, hb2⟩ := (hBd k (by omega)).kept hFF
      obtain ⟨fsp_, hSo⟩ := hSp.o
      have hrgp := hSp.rg
      have hO2 := hO2.kept (hF1.2 _ hO2.lt (Ne.symm hitc))
      have hl64 : (bE L k).length ≤ 64 := hrgp.2
      refine pb_cast C hOb (ci := 4) rfl q585 dX7_scan_25 ?_
      refine pb_astore_n C dX7_scan_28 rfl hl (by decide) rfl fun ls hl => ?_
      have hl : lv_has ls 5 [(3, .ref ((nV V k))), (0, .ref (c)), (2, .ref (it))] := hl
      refine pb_ic C dX7_scan_29 ?_
      refine pb_istore C dX7_scan_30 hl (by decide) rfl fun ls hl => ?_
      have hl : lv_has ls 5 [(4, .int (iZ (0))), (3, .ref ((nV V k))), (0, .ref (c)), (2, .ref (it))] := hl
      exact pb_V.mono (by omega) (by omega) (L32 _ 0 H_ rfl hG (by omega) (by omega) hI hO2 hFF ls (lv_sub hl [2, 3, 1, 0] rfl))
  refine pb_aload_n C dX7_scan_0 rfl (lv_at hl 1 rfl) ?_
  refine pb_getN C in_X2 hO (ci := 1) rfl 0 (by decide) q140 (fun _ h9 => h9) (v := .ref (t)) rfl dX7_scan_1 ?_
  obtain ⟨fsL9_, hLo9⟩ := (hLr.kept hFF).o
  refine pb_go_r (bc' := 0) (bs' := 0) (pb_runF (n := 0) (rest := []) C hG (x := ⟨"java/util/List", "iterator", "()Ljava/util/Iterator;"⟩) (met_J2_iterator l t _ V (hLr.kept hFF)) hLo9 (ci := 15) rfl (by decide) q520 q523 q525 q54 q527 (by decide +kernel) rfl hl.1 rfl (Nat.le_of_ble_eq_true rfl) ⟨(Nat.le_of_ble_eq_true rfl), (Nat.le_of_ble_eq_true rfl)⟩ dX7_scan_4) (by omega) (by omega) (fun it H_ hp_ => ?_)
  obtain ⟨hit, hI, hF1⟩ := hp_
  have hz4 := hFF.1
  have hG := hG.kept (hF1.mono (fun _ _ _ => trivial))
  have hFF := hFF.tr (hF1.mono (fun _ _ _ => trivial))
  have hitc : it ≠ c := by have := hO2.lt; omega
  have hO2 := hO2.kept (hF1.2 _ hO2.lt trivial)
  refine pb_astore_n C dX7_scan_9 rfl hl (by decide) rfl fun ls hl => ?_
  have hl : lv_has ls 5 [(2, .ref (it)), (0, .ref (c)), (1, .ref (a))] := hl
  exact pb_V.mono (by omega) (by omega) (L10 _ 0 it H_ rfl hG (by omega) (by omega) hI hFF hO2 hitc ls (lv_sub hl [1, 0] rfl))

set_option maxHeartbeats 1000000 in
theorem met_X7_visit_X17 {w : pb_W} (l : Launch) {H0 : Heap} (c : Nat) (v0 v1 v2 v3 l_ lo_ r_ hi_ : Int) (hz : w.2.2.2 ≤ c) (hO : pb_O w H0 c 7 [.int (iZ (v0)), .int (iZ (v1)), .int (iZ (v2)), .int (iZ (v3))]) : pb_M w l yX7_visit cX7_visit 5 none 0 (0) (0) [.ref (c), .int (iZ (l_)), .int (iZ (lo_)), .int (iZ (r_)), .int (iZ (hi_))] H0 (pb_qv (fun H1 => pb_O w H1 c 7 [.int (iZ ((v0 + 1))), .int (iZ (v1)), .int (iZ (v2)), .int (iZ (v3))] ∧ pb_F (fun q => q ≠ c) H0 H1)) := by
  refine pb_of (by decide +kernel) (Nat.le_of_ble_eq_true rfl) ?_
  intro p_ e_ s_ m_ ar_ bl_ me_ co_ ls C hh hG hl
  have hl : lv_has ls 5 [(0, .ref (c)), (1, .int (iZ (l_))), (2, .int (iZ (lo_))), (3, .int (iZ (r_))), (4, .int (iZ (hi_)))] := hl
  have hFF : pb_F (fun q => q ≠ c) H0 H0 := pb_F.rf
  refine pb_aload_n C dX7_visit_0 rfl (lv_at hl 0 rfl) ?_
  refine pb_dup C dX7_visit_1 rfl ?_
  refine pb_get C in_X17 hO.r (ci := 7) rfl 0 (by decide) q502 (fun _ h9 => h9) (v := .int (iZ (v0))) rfl dX7_visit_2 ?_
  refine pb_ic C dX7_visit_5 ?_
  refine pb_iadd C dX7_visit_6 ?_
  refine pb_put C in_X17 tyX17 tyX17_ok nmX17 hO (ci := 7) rfl 0 (by decide) q502 (fun _ h9 => h9) rfl (v := .int (iZ ((v0 + 1)))) rfl rfl (Nat.le_of_ble_eq_true rfl) (by omega) dX7_visit_7 fun H1_ hu_ hO => ?_
  have hO : pb_O w H1_ (c) 7 [.int (iZ ((v0 + 1))), .int (iZ (v1)), .int (iZ (v2)), .int (iZ (v3))] := hO
  have hG := hG.kept (hu_.z (by omega))
  have hs_H1_ := hu_.1
  have hFF := hFF.tr (hu_.f)
  exact pb_vret C dX7_visit_10 (⟨rfl, hO, hFF⟩)

set_option maxHeartbeats 1000000 in
theorem met_X17_visit {w : pb_W} (l : Launch) {H0 : Heap} (c : Nat) (v0 v1 v2 v3 l_ lo_ r_ hi_ : Int) (hl9 : -100 ≤ l_ ∧ l_ ≤ 100) (hr9 : -100 ≤ r_ ∧ r_ ≤ 100) (hlo9 : -100 ≤ lo_ ∧ lo_ ≤ 100) (hhi9 : -100 ≤ hi_ ∧ hi_ ≤ 100) (hz : w.2.2.2 ≤ c) (hO : pb_O w H0 c 7 [.int (iZ (v0)), .int (iZ (v1)), .int (iZ (v2)), .int (iZ (v3))]) : pb_M w l yX17_visit cX17_visit 5 none 1 (0) (0) [.ref (c), .int (iZ (l_)), .int (iZ (lo_)), .int (iZ (r_)), .int (iZ (hi_))] H0 (pb_qv (fun H1 => pb_O w H1 c 7 [.int (iZ ((miS (v0, v1, v2, v3) l_ lo_ r_ hi_).1)), .int (iZ ((miS (v0, v1, v2, v3) l_ lo_ r_ hi_).2.1)), .int (iZ ((miS (v0, v1, v2, v3) l_ lo_ r_ hi_).2.2.1)), .int (iZ ((miS (v0, v1, v2, v3) l_ lo_ r_ hi_).2.2.2))] ∧ pb_F (fun q => q ≠ c) H0 H1)) := by
  refine pb_of (by decide +kernel) (Nat.le_of_ble_eq_true rfl) ?_
  intro p_ e_ s_ m_ ar_ bl_ me_ co_ ls C hh hG hl
  have hl : lv_has ls 5 [(0, .ref (c)), (1, .int (iZ (l_))), (2, .int (iZ (lo_))), (3, .int (iZ (r_))), (4, .int (iZ (hi_)))] := hl
  have hFF : pb_F (fun q => q ≠ c) H0 H0 := pb_F.rf
  refine pb_aload_n C dX17_visit_0 rfl (lv_at hl 0 rfl) ?_
  refine pb_iload_n C dX17_visit_1 rfl (lv_at hl 1 rfl) ?_
  refine pb_iload_n C dX17_visit_2 rfl (lv_at hl 2 rfl) ?_
  refine pb_iload_n C dX17_visit_3 rfl (lv_at hl 3 rfl) ?_
  refine pb_iload C dX17_visit_4 (lv_at hl 4 rfl) ?_
  refine pb_go_v (bc' := 0) (bs' := 0) (pb_runSU (rest := []) C hG (met_X7_visit_X17 l c v0 v1 v2 v3 l_ lo_ r_ hi_ hz hO) hO.r (ci := 7) rfl q606 q597 q607 q596 q74 q602 (n := 4) ⟨by decide, by decide +kernel⟩ rfl hl.1 rfl (Nat.le_of_ble_eq_true rfl) ⟨(Nat.le_of_ble_eq_true rfl), (Nat.le_of_ble_eq_true rfl)⟩ dX17_visit_6) (by omega) (by omega) (fun H_ hp_ => ?_)
  obtain ⟨hO, hF1⟩ := hp_
  have hG := hG.kept (hF1.mono (fun q _ (hq : q < w.2.2.2) => show q ≠ _ from by omega))
  have hFF := hFF.tr hF1
  refine pb_aload_n C dX17_visit_9 rfl (lv_at hl 0 rfl) ?_
  refine pb_dup C dX17_visit_10 rfl ?_
  refine pb_get C in_X17 hO.r (ci := 7) rfl 1 (by decide) q1691 (fun _ h9 => h9) (v := .int (iZ (v1))) rfl dX17_visit_11 ?_
  refine pb_iload_n C dX17_visit_14 rfl (lv_at hl 3 rfl) ?_
  refine pb_iload_n C dX17_visit_15 rfl (lv_at hl 3 rfl) ?_
  refine pb_imul C dX17_visit_16 ?_
  refine pb_iload_n C dX17_visit_17 rfl (lv_at hl 1 rfl) ?_
  refine pb_iload_n C dX17_visit_18 rfl (lv_at hl 1 rfl) ?_
  refine pb_imul C dX17_visit_19 ?_
  refine pb_isub C dX17_visit_20 ?_
  refine pb_iload C dX17_visit_21 (lv_at hl 4 rfl) ?_
  refine pb_iload_n C dX17_visit_23 rfl (lv_at hl 2 rfl) ?_
  refine pb_isub C dX17_visit_24 ?_
  refine pb_imul C dX17_visit_25 ?_
  refine pb_iadd C dX17_visit_26 ?_
  refine pb_put C in_X17 tyX17 tyX17_ok nmX17 hO (ci := 7) rfl 1 (by decide) q1691 (fun _ h9 => h9) rfl (v := .int (iZ ((v1 + (((r_ * r_) - (l_ * l_)) * (hi_ - lo_)))))) rfl rfl (Nat.le_of_ble_eq_true rfl) (by omega) dX17_visit_27 fun H1_ hu_ hO => ?_
  have hO : pb_O w H1_ (c) 7 [.int (iZ ((v0 + 1))), .int (iZ ((v1 + (((r_ * r_) - (l_ * l_)) * (hi_ - lo_))))), .int (iZ (v2)), .int (iZ (v3))] := hO
  have hG := hG.kept (hu_.z (by omega))
  have hs_H1_ := hu_.1
  have hFF := hFF.tr (hu_.f)
  refine pb_aload_n C dX17_visit_30 rfl (lv_at hl 0 rfl) ?_
  refine pb_dup C dX17_visit_31 rfl ?_
  refine pb_get C in_X17 hO.r (ci := 7) rfl 2 (by decide) q1693 (fun _ h9 => h9) (v := .int (iZ (v2))) rfl dX17_visit_32 ?_
  refine pb_iload C dX17_visit_35 (lv_at hl 4 rfl) ?_
  refine pb_iload C dX17_visit_37 (lv_at hl 4 rfl) ?_
  refine pb_imul C dX17_visit_39 ?_
  refine pb_iload_n C dX17_visit_40 rfl (lv_at hl 2 rfl) ?_
  refine pb_iload_n C dX17_visit_41 rfl (lv_at hl 2 rfl) ?_
  refine pb_imul C dX17_visit_42 ?_
  refine pb_isub C dX17_visit_43 ?_
  refine pb_iload_n C dX17_visit_44 rfl (lv_at hl 3 rfl) ?_
  refine pb_iload_n C dX17_visit_45 rfl (lv_at hl 1 rfl) ?_
  refine pb_isub C dX17_visit_46 ?_
  refine pb_imul C dX17_visit_47 ?_
  refine pb_iadd C dX17_visit_48 ?_
  refine pb_put C in_X17 tyX17 tyX17_ok nmX17 hO (ci := 7) rfl 2 (by decide) q1693 (fun _ h9 => h9) rfl (v := .int (iZ ((v2 + (((hi_ * hi_) - (lo_ * lo_)) * (r_ - l_)))))) rfl rfl (Nat.le_of_ble_eq_true rfl) (by omega) dX17_visit_49 fun H2_ hu_ hO => ?_
  have hO : pb_O w H2_ (c) 7 [.int (iZ ((v0 + 1))), .int (iZ ((v1 + (((r_ * r_) - (l_ * l_)) * (hi_ - lo_))))), .int (iZ ((v2 + (((hi_ * hi_) - (lo_ * lo_)) * (r_ - l_))))), .int (iZ (v3))] := hO
  have hG := hG.kept (hu_.z (by omega))
  have hs_H2_ := hu_.1
  have hFF := hFF.tr (hu_.f)
  refine pb_aload_n C dX17_visit_52 rfl (lv_at hl 0 rfl) ?_
  refine pb_dup C dX17_visit_53 rfl ?_
  refine pb_get C in_X17 hO.r (ci := 7) rfl 3 (by decide) q1695 (fun _ h9 => h9) (v := .int (iZ (v3))) rfl dX17_visit_54 ?_
  refine pb_iload_n C dX17_visit_57 rfl (lv_at hl 3 rfl) ?_
  refine pb_iload_n C dX17_visit_58 rfl (lv_at hl 1 rfl) ?_
  refine pb_isub C dX17_visit_59 ?_
  refine pb_iload C dX17_visit_60 (lv_at hl 4 rfl) ?_
  refine pb_iload_n C dX17_visit_62 rfl (lv_at hl 2 rfl) ?_
  refine pb_isub C dX17_visit_63 ?_
  refine pb_imul C dX17_visit_64 ?_
  refine pb_iadd C dX17_visit_65 ?_
  refine pb_put C in_X17 tyX17 tyX17_ok nmX17 hO (ci := 7) rfl 3 (by decide) q1695 (fun _ h9 => h9) rfl (v := .int (iZ ((v3 + ((r_ - l_) * (hi_ - lo_)))))) rfl rfl (Nat.le_of_ble_eq_true rfl) (by omega) dX17_visit_66 fun H3_ hu_ hO => ?_
  have hO : pb_O w H3_ (c) 7 [.int (iZ ((v0 + 1))), .int (iZ ((v1 + (((r_ * r_) - (l_ * l_)) * (hi_ - lo_))))), .int (iZ ((v2 + (((hi_ * hi_) - (lo_ * lo_)) * (r_ - l_))))), .int (iZ ((v3 + ((r_ - l_) * (hi_ - lo_)))))] := hO
  have hG := hG.kept (hu_.z (by omega))
  have hs_H3_ := hu_.1
  have hFF := hFF.tr (hu_.f)
  exact pb_vret C dX17_visit_69 (⟨rfl, hO, hFF⟩)

set_option maxHeartbeats 1000000 in
theorem met_X7_scan_X17 {w : pb_W} (l : Launch) {H0 : Heap} (c a : Nat) (P : Nat → Prop) (L : List Bnd) (hR : Rg w H0 P a L) (hPc : ¬ P c) (hb9 : ∀ j i, -100 ≤ eE (bE L j) i ∧ eE (bE L j) i ≤ 100) (hh9 : ∀ j, (-100 ≤ (bd L j).1 ∧ (bd L j).1 ≤ 100) ∧ (-100 ≤ (bd L j).2.1 ∧ (bd L j).2.1 ≤ 100)) (s0 : Int × Int × Int × Int) (hzc : w.2.2.2 ≤ c) (hO2 : pb_O w H0 c 7 [.int (iZ (s0.1)), .int (iZ (s0.2.1)), .int (iZ (s0.2.2.1)), .int (iZ (s0.2.2.2))]) : pb_M w l yX7_scan cX7_scan 5 none 3 (1) (4) [.ref (c), .ref (a)] H0 (pb_qv (fun H1 => pb_O w H1 c 7 [.int (iZ ((scL miS L s0 L.length).1)), .int (iZ ((scL miS L s0 L.length).2.1)), .int (iZ ((scL miS L s0 L.length).2.2.1)), .int (iZ ((scL miS L s0 L.length).2.2.2))] ∧ pb_F (fun q => q < H0.size ∧ q ≠ c) H0 H1)) := by
  refine pb_of (by decide +kernel) (Nat.le_of_ble_eq_true rfl) ?_
  intro p_ e_ s_ m_ ar_ bl_ me_ co_ ls C hh hG hl
  have hl : lv_has ls 5 [(0, .ref (c)), (1, .ref (a))] := hl
  have hzs := hG.1
  have hFF : pb_F (fun q => q < H0.size ∧ q ≠ c) H0 H0 := pb_F.rf
  have hclt := hO2.lt
  have hR := hR.mono (fun q h9 (h : P q) => (⟨h9, fun e => hPc (e ▸ h)⟩ : q < H0.size ∧ q ≠ c))
  obtain ⟨t, V, hPa, hO, hLr, hVn, hBd⟩ := id hR
  obtain ⟨fsL_, hLo⟩ := hLr.o
  have hn9 := hLr.n
  have hrb := hR.rb
  have L10 : ∀ (n_ : Nat) (k it : Nat) (H : Heap), V.length - k = n_ → (pb_G w s_ H) → (k ≤ V.length) → (H0.size ≤ it) → (It w H it t k V.length) → (pb_F (fun q => q < H0.size ∧ q ≠ c) H0 H) → (pb_O w H c 7 [.int (iZ ((scL miS L s0 k).1)), .int (iZ ((scL miS L s0 k).2.1)), .int (iZ ((scL miS L s0 k).2.2.1)), .int (iZ ((scL miS L s0 k).2.2.2))]) → (it ≠ c) → ∀ (ls : Array Slot), lv_has ls 5 [(0, .ref (c)), (2, .ref (it))] → pb_V w.2.2.2 p_ l e_ (pb_rm 3 (1) (4)) s_ m_ ar_ bl_ me_ co_ H (0) (0) (pb_E w bl_ ar_ s_ (1) (4) (pb_qv (fun H1 => pb_O w H1 c 7 [.int (iZ ((scL miS L s0 L.length).1)), .int (iZ ((scL miS L s0 L.length).2.1)), .int (iZ ((scL miS L s0 L.length).2.2.1)), .int (iZ ((scL miS L s0 L.length).2.2.2))] ∧ pb_F (fun q => q < H0.size ∧ q ≠ c) H0 H1))) (F0 m_ 10 ls []) := by
    intro n_
    induction n_ using Nat.strongRecOn with
    | _ n_ ih10 =>
    intro k it H hm_ hG hk hit hI hFF hO2 hitc ls hl
    obtain ⟨fsI_, hIo⟩ := hI.o
    have L32 : ∀ (n_ : Nat) (j : Nat) (H : Heap), (bE L k).length / 2 - j = n_ → (pb_G w s_ H) → (j ≤ (bE L k).length / 2) → (k < V.length) → (It w H it t (k + 1) V.length) → (pb_O w H c 7 [.int (iZ ((scE miS (bd L k).1 (bd L k).2.1 (bE L k) (scL miS L s0 k) j).1)), .int (iZ ((scE miS (bd L k).1 (bd L k).2.1 (bE L k) (scL miS L s0 k) j).2.1)), .int (iZ ((scE miS (bd L k).1 (bd L k).2.1 (bE L k) (scL miS L s0 k) j).2.2.1)), .int (iZ ((scE miS (bd L k).1 (bd L k).2.1 (bE L k) (scL miS L s0 k) j).2.2.2))]) → (pb_F (fun q => q < H0.size ∧ q ≠ c) H0 H) → ∀ (ls : Array Slot), lv_has ls 5 [(0, .ref (c)), (2, .ref (it)), (3, .ref ((nV V k))), (4, .int (iZ (((j : Nat) : Int))))] → pb_V w.2.2.2 p_ l e_ (pb_rm 3 (1) (4)) s_ m_ ar_ bl_ me_ co_ H (0) (0) (pb_E w bl_ ar_ s_ (1) (4) (pb_qv (fun H1 => pb_O w H1 c 7 [.int (iZ ((scL miS L s0 L.length).1)), .int (iZ ((scL miS L s0 L.length).2.1)), .int (iZ ((scL miS L s0 L.length).2.2.1)), .int (iZ ((scL miS L s0 L.length).2.2.2))] ∧ pb_F (fun q => q < H0.size ∧ q ≠ c) H0 H1))) (F0 m_ 32 ls []) := by
      intro n_
      induction n_ using Nat.strongRecOn with
      | _ n_ ih32 =>
      intro j H hm_ hG hj hkV hI hO2 hFF ls hl
      obtain ⟨hPb, sp, hOb, hSp, hb1, hb2⟩ := (hBd k (by omega)).kept hFF
      obtain ⟨fsp_, hSo⟩ := hSp.o
      have hl64 : (bE L k).length ≤ 64 := hSp.rg.2
      refine pb_iload C dX7_scan_32 (lv_at hl 3 rfl) ?_
      refine pb_aload_n C dX7_scan_34 rfl (lv_at hl 2 rfl) ?_
      refine pb_getN C in_X5 hOb (ci := 4) rfl 1 (by decide) q467 (fun _ h9 => h9) (v := .ref (sp)) rfl dX7_scan_35 ?_
      refine pb_go_x (bc' := 0) (bs' := 0) (pb_runV (rest := [.int (iZ (((j : Nat) : Int)))]) C hG (met_X4_size l sp _ (bE L k) hSp) hSo (ci := 3) rfl (lw_V q586 q428 q429 q70 q430) ⟨rfl, hdX4_size⟩ rfl hl.1 rfl (Nat.le_of_ble_eq_true rfl) ⟨(Nat.le_of_ble_eq_true rfl), (Nat.le_of_ble_eq_true rfl)⟩ dX7_scan_38) (by omega) (by omega) ?_
      refine pb_icmp_ge C dX7_scan_41 (x := ((j : Nat) : Int)) (y := ((((bE L k).length / 2) : Nat) : Int)) (tgt := 80) (by decide) (by omega) (by omega) (fun c41_ => ?_) (fun c41_ => ?_)
      · have hj9 : j = (bE L k).length / 2 := by omega
        refine pb_goto C dX7_scan_80 (tgt := 10) (by decide) ?_
        exact pb_V.mono (by omega) (by omega) (ih10 _ (by omega) (k + 1) it H rfl hG (by omega) (by omega) hI hFF (by rw [scL, ← hj9]; exact hO2) hitc ls (lv_sub hl [0, 1] rfl))
      · refine pb_aload_n C dX7_scan_44 rfl (lv_at hl 0 rfl) ?_
        refine pb_aload_n C dX7_scan_45 rfl (lv_at hl 2 rfl) ?_
        refine pb_getN C in_X5 hOb (ci := 4) rfl 1 (by decide) q467 (fun _ h9 => h9) (v := .ref (sp)) rfl dX7_scan_46 ?_
        refine pb_iload C dX7_scan_49 (lv_at hl 3 rfl) ?_
        refine pb_go_x (bc' := 0) (bs' := 0) (pb_runV (rest := [.ref (c)]) C hG (met_X4_left l sp _ (bE L k) hSp j (by omega)) hSo (ci := 3) rfl (lw_V q587 q588 q589 q70 q590) ⟨rfl, hdX4_left⟩ rfl hl.1 rfl (Nat.le_of_ble_eq_true rfl) ⟨(Nat.le_of_ble_eq_true rfl), (Nat.le_of_ble_eq_true rfl)⟩ dX7_scan_51) (by omega) (by omega) ?_
        refine pb_aload_n C dX7_scan_54 rfl (lv_at hl 2 rfl) ?_
        refine pb_getN C in_X5 hOb (ci := 4) rfl 0 (by decide) q462 (fun _ h9 => h9) (v := .int (iZ ((bd L k).1))) rfl dX7_scan_55 ?_
        refine pb_aload_n C dX7_scan_58 rfl (lv_at hl 2 rfl) ?_
        refine pb_getN C in_X5 hOb (ci := 4) rfl 1 (by decide) q467 (fun _ h9 => h9) (v := .ref (sp)) rfl dX7_scan_59 ?_
        refine pb_iload C dX7_scan_62 (lv_at hl 3 rfl) ?_
        refine pb_go_x (bc' := 0) (bs' := 0) (pb_runV (rest := [.int (iZ ((bd L k).1)), .int (iZ ((eE (bE L k) (2 * j)))), .ref (c)]) C hG (met_X4_right l sp _ (bE L k) hSp j (by omega)) hSo (ci := 3) rfl (lw_V q591 q592 q593 q70 q594) ⟨rfl, hdX4_right⟩ rfl hl.1 rfl (Nat.le_of_ble_eq_true rfl) ⟨(Nat.le_of_ble_eq_true rfl), (Nat.le_of_ble_eq_true rfl)⟩ dX7_scan_64) (by omega) (by omega) ?_
        refine pb_aload_n C dX7_scan_67 rfl (lv_at hl 2 rfl) ?_
        refine pb_getN C in_X5 hOb (ci := 4) rfl 2 (by decide) q470 (fun _ h9 => h9) (v := .int (iZ ((bd L k).2.1))) rfl dX7_scan_68 ?_
        refine pb_go_v (bc' := 0) (bs' := 0) (pb_runO (rest := []) C hG (met_X17_visit l c (scE miS (bd L k).1 (bd L k).2.1 (bE L k) (scL miS L s0 k) j).1 (scE miS (bd L k).1 (bd L k).2.1 (bE L k) (scL miS L s0 k) j).2.1 (scE miS (bd L k).1 (bd L k).2.1 (bE L k) (scL miS L s0 k) j).2.2.1 (scE miS (bd L k).1 (bd L k).2.1 (bE L k) (scL miS L s0 k) j).2.2.2 (eE (bE L k) (2 * j)) (bd L k).1 (eE (bE L k) (2 * j + 1)) (bd L k).2.1 (hb9 k _) (hb9 k _) (hh9 k).1 (hh9 k).2 hzc hO2) (x := ⟨"PolygonBoard$Scan", "visit", "(IIII)V"⟩) (owner := "PolygonBoard$Scan") hO2.r (ci := 7) rfl q595 q597 q596 q602 q603 q604 q92 q605 (n := 4) ⟨by decide, by decide, by decide +kernel⟩ rfl hl.1 rfl (Nat.le_of_ble_eq_true rfl) ⟨(Nat.le_of_ble_eq_true rfl), (Nat.le_of_ble_eq_true rfl)⟩ dX7_scan_71) (by omega) (by omega) (fun H_ hp_ => ?_)
        obtain ⟨hO2, hF1⟩ := hp_
        have hG := hG.kept (hF1.mono (fun q _ (hq : q < w.2.2.2) => show q ≠ _ from by omega))
        have hI := hI.up2 hF1 hitc
        have hFF := hFF.tr (hF1.mono (fun q _ hq => hq.2))
        refine pb_iinc C dX7_scan_74 hl (j := 3) (x := (((j : Nat) : Int))) rfl (by decide) rfl fun ls hl => ?_
        have hl : lv_has ls 5 [(4, .int (iZ ((((j + 1) : Nat) : Int)))), (0, .ref (c)), (2, .ref (it)), (3, .ref ((nV V k)))] := hl
        refine pb_goto C dX7_scan_77 (tgt := 32) (by decide) ?_
        exact pb_V.mono (by omega) (by omega) (ih32 _ (by omega) (j + 1) H_ rfl hG (by omega) (by omega) hI hO2 hFF ls (lv_sub hl [1, 2, 3, 0] rfl))
    refine pb_aload_n C dX7_scan_10 rfl (lv_at hl 1 rfl) ?_
    refine pb_go_x (bc' := 0) (bs' := 0) (pb_runF (n := 0) (rest := []) C hG (x := ⟨"java/util/Iterator", "hasNext", "()Z"⟩) (met_J15_hasNext l it t k _ V hI (hLr.kept hFF) (by omega)) hIo (ci := 16) rfl (by decide) q548 q552 q554 q76 q556 (by decide +kernel) rfl hl.1 rfl (Nat.le_of_ble_eq_true rfl) ⟨(Nat.le_of_ble_eq_true rfl), (Nat.le_of_ble_eq_true rfl)⟩ dX7_scan_11) (by omega) (by omega) ?_
    refine pb_ifB_eq C dX7_scan_16 (tgt := 83) (by decide) (fun c16_ => ?_) (fun c16_ => ?_)
    · have c16_ := of_decide_eq_false c16_
      exact pb_vret C dX7_scan_83 (⟨rfl, by rw [show L.length = k from by omega]; exact hO2, hFF⟩)
    · have c16_ := of_decide_eq_true c16_
      refine pb_aload_n C dX7_scan_19 rfl (lv_at hl 1 rfl) ?_
      refine pb_go_r (bc' := 0) (bs' := 0) (pb_runF (n := 0) (rest := []) C hG (x := ⟨"java/util/Iterator", "next", "()Ljava/lang/Object;"⟩) (met_J15_next l it t k _ V hI (hLr.kept hFF) (by omega) (fun h9 => absurd (show it < H0.size from h9.1) (by omega)) (by omega)) hIo (ci := 16) rfl (by decide) q558 q561 q563 q76 q565 (by decide +kernel) rfl hl.1 rfl (Nat.le_of_ble_eq_true rfl) ⟨(Nat.le_of_ble_eq_true rfl), (Nat.le_of_ble_eq_true rfl)⟩ dX7_scan_20) (by omega) (by omega) (fun b_ H_ hp_ => ?_)
      obtain ⟨rfl, hI, hF1⟩ := hp_
      have hG := hG.kept (hF1.mono (fun q _ (hq : q < w.2.2.2) => show q ≠ _ from by omega))
      have hFF := hFF.tr (hF1.mono (fun q _ hq => (show q ≠ _ from by have := hq.1; omega)))
      obtain ⟨hPb, sp, hOb, hSp, hb1, hb2⟩ := (hBd k (by omega)).kept hFF
      obtain ⟨fsp_, hSo⟩ := hSp.o
      have hrgp := hSp.rg
      have hO2 := hO2.kept (hF1.2 _ hO2.lt (Ne.symm hitc))
      have hl64 : (bE L k).length ≤ 64 := hrgp.2
      refine pb_cast C hOb (ci := 4) rfl q585 dX7_scan_25 ?_
      refine pb_astore_n C dX7_scan_28 rfl hl (by decide) rfl fun ls hl => ?_
      have hl : lv_has ls 5 [(3, .ref ((nV V k))), (0, .ref (c)), (2, .ref (it))] := hl
      refine pb_ic C dX7_scan_29 ?_
      refine pb_istore C dX7_scan_30 hl (by decide) rfl fun ls hl => ?_
      have hl : lv_has ls 5 [(4, .int (iZ (0))), (3, .ref ((nV V k))), (0, .ref (c)), (2, .ref (it))] := hl
      exact pb_V.mono (by omega) (by omega) (L32 _ 0 H_ rfl hG (by omega) (by omega) hI hO2 hFF ls (lv_sub hl [2, 3, 1, 0] rfl))
  refine pb_aload_n C dX7_scan_0 rfl (lv_at hl 1 rfl) ?_
  refine pb_getN C in_X2 hO (ci := 1) rfl 0 (by decide) q140 (fun _ h9 => h9) (v := .ref (t)) rfl dX7_scan_1 ?_
  obtain ⟨fsL9_, hLo9⟩ := (hLr.kept hFF).o
  refine pb_go_r (bc' := 0) (bs' := 0) (pb_runF (n := 0) (rest := []) C hG (x := ⟨"java/util/List", "iterator", "()Ljava/util/Iterator;"⟩) (met_J2_iterator l t _ V (hLr.kept hFF)) hLo9 (ci := 15) rfl (by decide) q520 q523 q525 q54 q527 (by decide +kernel) rfl hl.1 rfl (Nat.le_of_ble_eq_true rfl) ⟨(Nat.le_of_ble_eq_true rfl), (Nat.le_of_ble_eq_true rfl)⟩ dX7_scan_4) (by omega) (by omega) (fun it H_ hp_ => ?_)
  obtain ⟨hit, hI, hF1⟩ := hp_
  have hz4 := hFF.1
  have hG := hG.kept (hF1.mono (fun _ _ _ => trivial))
  have hFF := hFF.tr (hF1.mono (fun _ _ _ => trivial))
  have hitc : it ≠ c := by have := hO2.lt; omega
  have hO2 := hO2.kept (hF1.2 _ hO2.lt trivial)
  refine pb_astore_n C dX7_scan_9 rfl hl (by decide) rfl fun ls hl => ?_
  have hl : lv_has ls 5 [(2, .ref (it)), (0, .ref (c)), (1, .ref (a))] := hl
  exact pb_V.mono (by omega) (by omega) (L10 _ 0 it H_ rfl hG (by omega) (by omega) hI hFF hO2 hitc ls (lv_sub hl [1, 0] rfl))

