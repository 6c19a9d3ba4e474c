set_option maxRecDepth 100000
set_option maxHeartbeats 1000000 in
theorem met_X2_clipped {w : pb_W} (l : Launch) {H0 : Heap} (a : Nat) (P : Nat → Prop) (L : List Bnd) (hR : Rg w H0 P a L) (D : Nat) (K : Int) (hD : D ≤ 200) (hlow : K - D ≤ min (lowF L) (lowF ((recF 0 0 24 24)))) (hK : ∀ y, y < nhAll L ((recF 0 0 24 24)) y → nhAll L ((recF 0 0 24 24)) y ≤ K) (hE : ∀ y n, n ≤ (rowL L y).length + (rowL ((recF 0 0 24 24)) y).length → (cmS 1 (rowL L y) (rowL ((recF 0 0 24 24)) y) n).2.2.2.length ≤ 64) : pb_M w l yX2_clipped cX2_clipped 1 (some (.object "PolygonBoard$Region")) 9 (10 + 9 * D + rpC D 0) (39 + 138 * D + rpS D 0) [.ref (a)] H0 (pb_qr (fun r H1 => ∃ Y, cmbR 1 L ((recF 0 0 24 24)) Y ∧ Rb w H1 H0.size r Y ∧ pb_F (fun q => q < H0.size) H0 H1)) := by
  refine pb_of (by decide +kernel) (Nat.le_of_ble_eq_true rfl) ?_
  intro p_ e_ s_ m_ ar_ bl_ me_ co_ ls C hh hG hl
  have hl : lv_has ls 1 [(0, .ref (a))] := hl
  have hzs := hG.1
  have hFF : pb_F (fun q => q < H0.size) H0 H0 := pb_F.rf
  have hR := hR.below
  obtain ⟨fsR_, hRo⟩ := hR.o
  refine pb_aload_n C dX2_clipped_0 rfl (lv_at hl 0 rfl) ?_
  refine pb_ic C dX2_clipped_1 ?_
  refine pb_ic C dX2_clipped_2 ?_
  refine pb_bip C dX2_clipped_3 (by decide) ?_
  refine pb_bip C dX2_clipped_5 (by decide) ?_
  refine pb_go_r (bc' := 10 + 9 * D + rpC D 0 - 6) (bs' := 39 + 138 * D + rpS D 0 - 27) (pb_runS (rest := [.ref (a)]) C hG (met_X2_rectangle l 0 0 24 24 (by decide) (by decide) (by decide) (by decide)) (lw_S q900 q400 q55 q401) hdX2_rectangle rfl hl.1 rfl (Nat.le_of_ble_eq_true rfl) ⟨(Nat.le_of_ble_eq_true rfl), (Nat.le_of_ble_eq_true rfl)⟩ dX2_clipped_7) (by omega) (by omega) (fun q H_ hp_ => ?_)
  obtain ⟨hQ, hF1⟩ := hp_
  have hG := hG.kept (hF1.mono (fun q _ (hq : q < w.2.2.2) => Nat.lt_of_lt_of_le hq hG.1))
  have hFF := hFF.tr (hF1.mono (fun q _ (hq : q < H0.size) => Nat.lt_of_lt_of_le hq hFF.1))
  have hQg := hQ.rg (by decide)
  refine pb_gets C (n := "INTERSECTION") (v := .ref (w.2.2.1 4)) hG.2.2.2.2.2.2.2.2.2.2.1.1 q901 (fun _ h9 => h9) dX2_clipped_10 ?_
  obtain ⟨fsA_, hAo⟩ := (hR.kept hFF).o
  refine pb_go_r (bc' := 10 + 9 * D + rpC D 0 - 6 - ((4 + 9 * D + rpC D 0))) (bs' := 39 + 138 * D + rpS D 0 - 27 - ((12 + 138 * D + rpS D 0))) (pb_runV (rest := []) C hG (met_X2_combine l a q 1 (by decide) _ _ L ((recF 0 0 24 24)) (hR.kept hFF) (hQg) D K hD hlow hK hE) hAo (ci := 1) rfl (lw_V q903 q665 q666 q55 q667) ⟨rfl, hdX2_combine⟩ rfl hl.1 rfl (Nat.le_of_ble_eq_true rfl) ⟨(Nat.le_of_ble_eq_true rfl), (Nat.le_of_ble_eq_true rfl)⟩ dX2_clipped_13) (by omega) (by omega) (fun r9 H_ hp_ => ?_)
  have hz3 := hFF.1
  obtain ⟨N_, hN1, hN2, hCb, hF1⟩ := hp_
  have hG := hG.kept (hF1.mono (fun q _ (hq : q < w.2.2.2) => Nat.lt_of_lt_of_le hq hG.1))
  have hFF := hFF.tr (hF1.mono (fun q _ (hq : q < H0.size) => Nat.lt_of_lt_of_le hq hFF.1))
  have hC : cmbR 1 L ((recF 0 0 24 24)) _ := ⟨N_, hN1, rfl⟩
  exact pb_aret C (Or.inl ⟨_, rfl⟩) dX2_clipped_16 (Or.inr ⟨_, rfl⟩) (⟨_, rfl, _, hC, hCb.lw hz3, hFF⟩)

set_option maxHeartbeats 1000000 in
theorem met_X2_moved {w : pb_W} (l : Launch) {H0 : Heap} (a : Nat) (P : Nat → Prop) (L : List Bnd) (hR : Rg w H0 P a L) (hb9 : ∀ j i, -900 ≤ eE (bE L j) i ∧ eE (bE L j) i ≤ 900) (hh9 : ∀ j, (-900 ≤ (bd L j).1 ∧ (bd L j).1 ≤ 900) ∧ (-900 ≤ (bd L j).2.1 ∧ (bd L j).2.1 ≤ 900)) (rr u : Int) (hrr : -50 ≤ rr ∧ rr ≤ 50) (huu : -50 ≤ u ∧ u ≤ 50) (NB : Nat) (hNB : L.length ≤ NB ∧ NB ≤ 200) (D : Nat) (K : Int) (hD : D ≤ 200) (hlow : K - D ≤ min (lowF ((movF L rr u L.length))) (lowF ((recF 0 0 24 24)))) (hK : ∀ y, y < nhAll ((movF L rr u L.length)) ((recF 0 0 24 24)) y → nhAll ((movF L rr u L.length)) ((recF 0 0 24 24)) y ≤ K) (hE : ∀ y n, n ≤ (rowL ((movF L rr u L.length)) y).length + (rowL ((recF 0 0 24 24)) y).length → (cmS 1 (rowL ((movF L rr u L.length)) y) (rowL ((recF 0 0 24 24)) y) n).2.2.2.length ≤ 64) : pb_M w l yX2_moved cX2_moved 6 (some (.object "PolygonBoard$Region")) 10 (13 + 5 * NB + rpC NB 0 + 9 * D + rpC D 0) (47 + 122 * NB + rpS NB 0 + 138 * D + rpS D 0) [.ref (a), .int (iZ (rr)), .int (iZ (u))] H0 (pb_qr (fun r H1 => ∃ Y, cmbR 1 ((movF L rr u L.length)) ((recF 0 0 24 24)) Y ∧ Rb w H1 H0.size r Y ∧ pb_F (fun q => q < H0.size) H0 H1)) := by
  refine pb_of (by decide +kernel) (Nat.le_of_ble_eq_true rfl) ?_
  intro p_ e_ s_ m_ ar_ bl_ me_ co_ ls C hh hG hl
  have hl : lv_has ls 6 [(0, .ref (a)), (1, .int (iZ (rr))), (2, .int (iZ (u)))] := hl
  have hzs := hG.1
  have hFF : pb_F (fun q => q < H0.size) H0 H0 := pb_F.rf
  have hR := hR.below
  obtain ⟨t, V, hPa, hO, hLr, hVn, hBd⟩ := id hR
  obtain ⟨fsL_, hLo⟩ := hLr.o
  have hn9 := hLr.n
  have hrb := hR.rb
  have hm1 : (movF L rr u 0).length = 0 := rfl
  have hm2 : rpC NB (movF L rr u 0).length = rpC NB 0 ∧ rpS NB (movF L rr u 0).length = rpS NB 0 := ⟨rfl, rfl⟩
  have L19 : ∀ (n_ : Nat) (k it : Nat) (r : Nat) (H : Heap), V.length - k = n_ → (pb_G w s_ H) → (k ≤ V.length) → (H0.size ≤ it) → (It w H it t k V.length) → (pb_F (fun q => q < H0.size) H0 H) → (Rb w H H0.size r (movF L rr u k)) → ∀ (ls : Array Slot), lv_has ls 6 [(1, .int (iZ (rr))), (2, .int (iZ (u))), (3, .ref (r)), (4, .ref (it))] → pb_V w.2.2.2 p_ l e_ (pb_rm 10 (13 + 5 * NB + rpC NB 0 + 9 * D + rpC D 0) (47 + 122 * NB + rpS NB 0 + 138 * D + rpS D 0)) s_ m_ ar_ bl_ me_ co_ H (10 + 9 * D + rpC D 0 + 5 * (NB - k) + rpC NB (movF L rr u k).length) (39 + 138 * D + rpS D 0 + 122 * (NB - k) + rpS NB (movF L rr u k).length) (pb_E w bl_ ar_ s_ (13 + 5 * NB + rpC NB 0 + 9 * D + rpC D 0) (47 + 122 * NB + rpS NB 0 + 138 * D + rpS D 0) (pb_qr (fun r H1 => ∃ Y, cmbR 1 ((movF L rr u L.length)) ((recF 0 0 24 24)) Y ∧ Rb w H1 H0.size r Y ∧ pb_F (fun q => q < H0.size) H0 H1))) (F0 m_ 19 ls []) := by
    intro n_
    induction n_ using Nat.strongRecOn with
    | _ n_ ih19 =>
    intro k it r H hm_ hG hk hit hI hFF hRb ls hl
    obtain ⟨fsI_, hIo⟩ := hI.o
    refine pb_aload C dX2_moved_19 (lv_at hl 3 rfl) ?_
    refine pb_go_x (bc' := 10 + 9 * D + rpC D 0 + 5 * (NB - k) + rpC NB (movF L rr u k).length) (bs' := 39 + 138 * D + rpS D 0 + 122 * (NB - k) + rpS NB (movF L rr u k).length) (pb_runF (n := 0) (rest := []) C hG (x := ⟨"java/util/Iterator", "hasNext", "()Z"⟩) (met_J15_hasNext l it t k _ V hI (hLr.kept hFF) (by omega)) hIo (ci := 16) rfl (by decide) q683 q552 q554 q76 q556 (by decide +kernel) rfl hl.1 rfl (Nat.le_of_ble_eq_true rfl) ⟨(Nat.le_of_ble_eq_true rfl), (Nat.le_of_ble_eq_true rfl)⟩ dX2_moved_21) (by omega) (by omega) ?_
    refine pb_ifB_eq C dX2_moved_26 (tgt := 71) (by decide) (fun c26_ => ?_) (fun c26_ => ?_)
    · have c26_ := of_decide_eq_false c26_
      refine pb_aload_n C dX2_moved_71 rfl (lv_at hl 2 rfl) ?_
      have hk9 : k = L.length := by omega
      rw [hk9] at hRb
      have hln := movF_len L rr u L.length
      have hRq := hRb.rg (by omega)
      obtain ⟨fsq_, hRqo⟩ := hRq.o
      have hz2 := hFF.1
      refine pb_go_r (bc' := 10 + 9 * D + rpC D 0 + 5 * (NB - k) + rpC NB (movF L rr u k).length - ((10 + 9 * D + rpC D 0))) (bs' := 39 + 138 * D + rpS D 0 + 122 * (NB - k) + rpS NB (movF L rr u k).length - ((39 + 138 * D + rpS D 0))) (pb_runV (rest := []) C hG (met_X2_clipped l r _ (movF L rr u L.length) hRq D K hD hlow hK hE) hRqo (ci := 1) rfl (lw_V q932 q897 q898 q55 q899) ⟨rfl, hdX2_clipped⟩ rfl hl.1 rfl (Nat.le_of_ble_eq_true rfl) ⟨(Nat.le_of_ble_eq_true rfl), (Nat.le_of_ble_eq_true rfl)⟩ dX2_moved_72) (by omega) (by omega) (fun r9 H_ hp_ => ?_)
      obtain ⟨Y, hC, hCb, hF1⟩ := hp_
      have hG := hG.kept (hF1.mono (fun q _ (hq : q < w.2.2.2) => Nat.lt_of_lt_of_le hq hG.1))
      have hFF := hFF.tr (hF1.mono (fun q _ (hq : q < H0.size) => Nat.lt_of_lt_of_le hq hFF.1))
      exact pb_aret C (Or.inl ⟨_, rfl⟩) dX2_moved_75 (Or.inr ⟨_, rfl⟩) (⟨_, rfl, _, hC, hCb.lw hz2, hFF⟩)
    · have c26_ := of_decide_eq_true c26_
      refine pb_aload C dX2_moved_29 (lv_at hl 3 rfl) ?_
      have hI0 := hI
      have h0T : pb_Ty w H (w.2.2.1 0) 23 := hG.2.2.2.1.ty
      refine pb_go_r (bc' := 10 + 9 * D + rpC D 0 + 5 * (NB - k) + rpC NB (movF L rr u k).length) (bs' := 39 + 138 * D + rpS D 0 + 122 * (NB - k) + rpS NB (movF L rr u k).length) (pb_runF (n := 0) (rest := []) C hG (x := ⟨"java/util/Iterator", "next", "()Ljava/lang/Object;"⟩) (met_J15_next l it t k _ V hI (hLr.kept hFF) (by omega) (fun h9 => absurd (show it < H0.size from h9) (by omega)) (by omega)) hIo (ci := 16) rfl (by decide) q685 q561 q563 q76 q565 (by decide +kernel) rfl hl.1 rfl (Nat.le_of_ble_eq_true rfl) ⟨(Nat.le_of_ble_eq_true rfl), (Nat.le_of_ble_eq_true rfl)⟩ dX2_moved_31) (by omega) (by omega) (fun b_ H_ hp_ => ?_)
      obtain ⟨rfl, hI, hF1⟩ := hp_
      have hG := hG.kept (hF1.mono (fun q _ (hq : q < w.2.2.2) => show q ≠ _ from by omega))
      have hFF := hFF.tr (hF1.mono (fun q _ (hq : q < H0.size) => show q ≠ _ from by omega))
      obtain ⟨hPb, sp, hOb, hSp, hb1, hb2⟩ := (hBd k (by omega)).kept hFF
      obtain ⟨fsp_, hSo⟩ := hSp.o
      have hrgp := hSp.rg
      have hRb := hRb.it C.inj h0T hI0 hF1
      obtain ⟨HB, hHB⟩ : ∃ HB : Heap, HB = H_ := ⟨_, rfl⟩
      have hFI : pb_F (fun q => q < HB.size) HB H_ := by rw [hHB]; exact pb_F.rf
      have hzB : H0.size ≤ HB.size := by rw [hHB]; exact hFF.1
      have hRbB : Rb w HB H0.size r (movF L rr u k) := by rw [hHB]; exact hRb
      have hlk := movF_len L rr u k
      have hz5 := hFF.1
      have hl64 : (bE L k).length ≤ 64 := hrgp.2
      have hh8 := hh9 k
      refine pb_cast C hOb (ci := 4) rfl q451 dX2_moved_36 ?_
      refine pb_astore C dX2_moved_39 hl (by decide) rfl fun ls hl => ?_
      have hl : lv_has ls 6 [(5, .ref ((nV V k))), (1, .int (iZ (rr))), (2, .int (iZ (u))), (3, .ref (r)), (4, .ref (it))] := hl
      refine pb_aload_n C dX2_moved_41 rfl (lv_at hl 3 rfl) ?_
      refine pb_aload C dX2_moved_42 (lv_at hl 0 rfl) ?_
      refine pb_getN C in_X5 hOb (ci := 4) rfl 0 (by decide) q464 (fun _ h9 => h9) (v := .int (iZ ((bd L k).1))) rfl dX2_moved_44 ?_
      refine pb_iload_n C dX2_moved_47 rfl (lv_at hl 2 rfl) ?_
      refine pb_iadd C dX2_moved_48 ?_
      refine pb_aload C dX2_moved_49 (lv_at hl 0 rfl) ?_
      refine pb_getN C in_X5 hOb (ci := 4) rfl 2 (by decide) q471 (fun _ h9 => h9) (v := .int (iZ ((bd L k).2.1))) rfl dX2_moved_51 ?_
      refine pb_iload_n C dX2_moved_54 rfl (lv_at hl 2 rfl) ?_
      refine pb_iadd C dX2_moved_55 ?_
      refine pb_aload C dX2_moved_56 (lv_at hl 0 rfl) ?_
      refine pb_getN C in_X5 hOb (ci := 4) rfl 1 (by decide) q468 (fun _ h9 => h9) (v := .ref (sp)) rfl dX2_moved_58 ?_
      refine pb_iload_n C dX2_moved_61 rfl (lv_at hl 1 rfl) ?_
      refine pb_go_r (bc' := 10 + 9 * D + rpC D 0 + 5 * (NB - k) + rpC NB (movF L rr u k).length - 5) (bs' := 39 + 138 * D + rpS D 0 + 122 * (NB - k) + rpS NB (movF L rr u k).length - 122) (pb_runV (rest := [.int (iZ (((bd L k).2.1 + u))), .int (iZ (((bd L k).1 + u))), .ref (r)]) C hG (met_X4_moved l sp _ (bE L k) hSp rr hrr (hb9 k) (fun k8 hk8 => Nat.le_trans (mvE_len _ _ _ _) (by omega))) hSo (ci := 3) rfl (lw_V q928 q929 q930 q70 q931) ⟨rfl, hdX4_moved⟩ rfl hl.1 rfl (Nat.le_of_ble_eq_true rfl) ⟨(Nat.le_of_ble_eq_true rfl), (Nat.le_of_ble_eq_true rfl)⟩ dX2_moved_62) (by omega) (by omega) (fun s3 H_ hp_ => ?_)
      obtain ⟨m9, hS3, hF1⟩ := hp_
      have hG := hG.kept (hF1.mono (fun q _ (hq : q < w.2.2.2) => Nat.lt_of_lt_of_le hq hG.1))
      have hFF := hFF.tr (hF1.mono (fun q _ (hq : q < H0.size) => Nat.lt_of_lt_of_le hq hFF.1))
      have hFI := hFI.tr (hF1.mono (fun q _ (hq : q < HB.size) => Nat.lt_of_lt_of_le hq hFI.1))
      have hI9 := hI.kall (hF1.mono (fun q h _ => h))
      have hRb := hRbB.kept (hFI.mono (fun q h _ => h))
      obtain ⟨fsR_, hRbo⟩ := hRb.o
      have hpot := radd_pot (L := movF L rr u k) (lo := ((bd L k).1 + u)) (hi := ((bd L k).2.1 + u)) (E := (mvE (bE L k) rr rr ((bE L k).length / 2))) (N := NB) (Nat.le_trans (radd_n hlk) (by omega))
      rw [show radd (movF L rr u k) (((bd L k).1 + u)) (((bd L k).2.1 + u)) (mvE (bE L k) rr rr ((bE L k).length / 2)) = movF L rr u (k + 1) from rfl] at hpot
      refine pb_go_v (bc' := 10 + 9 * D + rpC D 0 + 5 * (NB - k) + rpC NB (movF L rr u k).length - 5 - ((radc ((movF L rr u k)) (((bd L k).1 + u)) (((bd L k).2.1 + u)) ((mvE (bE L k) rr rr ((bE L k).length / 2)))))) (bs' := 39 + 138 * D + rpS D 0 + 122 * (NB - k) + rpS NB (movF L rr u k).length - 122 - ((rads ((movF L rr u k)) (((bd L k).1 + u)) (((bd L k).2.1 + u)) ((mvE (bE L k) rr rr ((bE L k).length / 2)))))) (pb_runV (rest := []) C hG (met_X2_add l H0.size r _ ((movF L rr u k)) ((mvE (bE L k) rr rr ((bE L k).length / 2))) (((bd L k).1 + u)) (((bd L k).2.1 + u)) (by omega) hRb (hS3.hi hz5) (by omega) (by omega) (by omega)) hRbo (ci := 1) rfl (lw_V q423 q424 q425 q55 q426) ⟨rfl, hdX2_add⟩ rfl hl.1 rfl (Nat.le_of_ble_eq_true rfl) ⟨(Nat.le_of_ble_eq_true rfl), (Nat.le_of_ble_eq_true rfl)⟩ dX2_moved_65) (by omega) (by omega) (fun H_ hp_ => ?_)
      obtain ⟨hRb, hFA⟩ := hp_
      have hG := hG.kept (hFA.mono (fun q _ (hq : q < w.2.2.2) => Or.inl (by omega)))
      have hFF := hFF.tr (hFA.mono (fun q _ hq => Or.inl hq))
      refine pb_goto C dX2_moved_68 (tgt := 19) (by decide) ?_
      exact pb_V.mono (by omega) (by omega) (ih19 _ (by omega) (k + 1) it r H_ rfl hG (by omega) (by omega) (hI9.fa hFA) hFF (by rw [movF]; exact hRb) ls (lv_sub hl [1, 2, 3, 4] rfl))
  refine pb_newE C in_X2 tyX2 tyX2_ok (ci := 1) rfl q402 q131 q55 (fs := [.null]) (by decide) (bc' := 13 + 5 * NB + rpC NB 0 + 9 * D + rpC D 0 - 1) (bs' := 47 + 122 * NB + rpS NB 0 + 138 * D + rpS D 0 - 1) (by omega) (by omega) dX2_moved_0 fun a1_ H1_ ha_ hn_ hN1_ => ?_
  have hs1_ : H1_.size = H0.size + 1 := hn_.1
  have hG := hG.kept (hn_.f.mono (fun _ _ _ => trivial))
  have hO := hO.kept (hn_.2 _ hO.lt)
  have hz7 := hFF.1
  have hFF := hFF.tr (hn_.f.mono (fun _ _ _ => trivial))
  obtain rfl : a1_ = H0.size := by omega
  skip
  have hN := hN1_
  refine pb_dup C dX2_moved_3 rfl ?_
  have hz9 := hFF.1
  refine pb_go_v (bc' := 13 + 5 * NB + rpC NB 0 + 9 * D + rpC D 0 - 1 - 1) (bs' := 47 + 122 * NB + rpS NB 0 + 138 * D + rpS D 0 - 1 - 3) (pb_runI (rest := [.ref (H0.size)]) C hG (met_X2_init l H0.size H0.size (by omega) (by omega) hN) q403 q133 q55 q134 rfl hdX2_init rfl hl.1 rfl (Nat.le_of_ble_eq_true rfl) ⟨(Nat.le_of_ble_eq_true rfl), (Nat.le_of_ble_eq_true rfl)⟩ dX2_moved_4) (by omega) (by omega) (fun H_ hp_ => ?_)
  obtain ⟨hRb, hF1⟩ := hp_
  have hG := hG.kept (hF1.mono (fun q _ (hq : q < w.2.2.2) => Or.inl (by omega)))
  have hFF := hFF.tr (hF1.mono (fun q _ hq => Or.inl hq))
  have hO := hO.kept (hF1.2 _ hO.lt (Or.inl hPa))
  refine pb_astore_n C dX2_moved_7 rfl hl (by decide) rfl fun ls hl => ?_
  have hl : lv_has ls 6 [(3, .ref (H0.size)), (0, .ref (a)), (1, .int (iZ (rr))), (2, .int (iZ (u)))] := hl
  refine pb_aload_n C dX2_moved_8 rfl (lv_at hl 1 rfl) ?_
  refine pb_get C in_X2 hO (ci := 1) rfl 0 (by decide) q139 (fun _ h9 => h9) (v := .ref (t)) rfl dX2_moved_9 ?_
  obtain ⟨fsL9_, hLo9⟩ := (hLr.kept hFF).o
  refine pb_go_r (bc' := 13 + 5 * NB + rpC NB 0 + 9 * D + rpC D 0 - 1 - 1 - 1) (bs' := 47 + 122 * NB + rpS NB 0 + 138 * D + rpS D 0 - 1 - 3 - 4) (pb_runF (n := 0) (rest := []) C hG (x := ⟨"java/util/List", "iterator", "()Ljava/util/Iterator;"⟩) (met_J2_iterator l t _ V (hLr.kept hFF)) hLo9 (ci := 15) rfl (by decide) q681 q523 q525 q54 q527 (by decide +kernel) rfl hl.1 rfl (Nat.le_of_ble_eq_true rfl) ⟨(Nat.le_of_ble_eq_true rfl), (Nat.le_of_ble_eq_true rfl)⟩ dX2_moved_12) (by omega) (by omega) (fun it H_ hp_ => ?_)
  obtain ⟨hit, hI, hF1⟩ := hp_
  have hz4 := hFF.1
  have hG := hG.kept (hF1.mono (fun _ _ _ => trivial))
  have hFF := hFF.tr (hF1.mono (fun _ _ _ => trivial))
  have hRb := hRb.kept (hF1.mono (fun _ _ _ => trivial))
  refine pb_astore C dX2_moved_17 hl (by decide) rfl fun ls hl => ?_
  have hl : lv_has ls 6 [(4, .ref (it)), (3, .ref (H0.size)), (0, .ref (a)), (1, .int (iZ (rr))), (2, .int (iZ (u)))] := hl
  exact pb_V.mono (by omega) (by omega) (L19 _ 0 it H0.size H_ rfl hG (by omega) (by omega) hI hFF hRb ls (lv_sub hl [3, 4, 1, 0] rfl))

