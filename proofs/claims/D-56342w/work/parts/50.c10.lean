set_option maxRecDepth 100000
set_option maxHeartbeats 1000000 in
theorem met_X2_spansAround {w : pb_W} (l : Launch) {H0 : Heap} (a : Nat) (P : Nat → Prop) (L : List Bnd) (hR : Rg w H0 P a L) (y d : Int) (hy : -1000 ≤ y ∧ y ≤ 1000) (hd : -50 ≤ d ∧ d ≤ 50) (NB : Nat) (hNB : L.length ≤ NB) (hE : ∀ k, k < L.length → ∀ n, n ≤ ((sarF L y d k)).length + ((bE L k)).length → (cmS 0 ((sarF L y d k)) ((bE L k)) n).2.2.2.length ≤ 64) : pb_M w l yX2_spansAround cX2_spansAround 6 (some (.object "PolygonBoard$Spans")) 4 (1 + 5 * NB) (4 + 122 * NB) [.ref (a), .int (iZ (y)), .int (iZ (d))] H0 (pb_qr (fun s H1 => Sp w H1 (fun _ => True) s (sarF L y d L.length) ∧ (sarF L y d L.length = [] ∨ Sp w H1 (fun q => H0.size ≤ q) s (sarF L y d L.length)) ∧ pb_F (fun q => q < H0.size) H0 H1)) := by
  refine pb_of (by decide +kernel) (Nat.le_of_ble_eq_true rfl) ?_
  intro p_ e_ s_ m_ ar_ bl_ me_ co_ ls C hh hG hl
  have hl : lv_has ls 6 [(0, .ref (a)), (1, .int (iZ (y))), (2, .int (iZ (d)))] := hl
  have hzs := hG.1
  have hFF : pb_F (fun q => q < H0.size) H0 H0 := pb_F.rf
  have hR := hR.below
  obtain ⟨t, V, hPa, hO, hLr, hVn, hBd⟩ := id hR
  obtain ⟨fsL_, hLo⟩ := hLr.o
  have hn9 := hLr.n
  have hrb := hR.rb
  have L15 : ∀ (n_ : Nat) (k it : Nat) (s : Nat) (H : Heap), V.length - k = n_ → (pb_G w s_ H) → (k ≤ V.length) → (H0.size ≤ it) → (It w H it t k V.length) → (pb_F (fun q => q < H0.size) H0 H) → (Sp w H (fun _ => True) s (sarF L y d k)) → ((sarF L y d k) = [] ∨ Sp w H (fun q => H0.size ≤ q) s (sarF L y d k)) → ∀ (ls : Array Slot), lv_has ls 6 [(1, .int (iZ (y))), (2, .int (iZ (d))), (3, .ref (s)), (4, .ref (it))] → pb_V w.2.2.2 p_ l e_ (pb_rm 4 (1 + 5 * NB) (4 + 122 * NB)) s_ m_ ar_ bl_ me_ co_ H (5 * (NB - k)) (122 * (NB - k)) (pb_E w bl_ ar_ s_ (1 + 5 * NB) (4 + 122 * NB) (pb_qr (fun s H1 => Sp w H1 (fun _ => True) s (sarF L y d L.length) ∧ (sarF L y d L.length = [] ∨ Sp w H1 (fun q => H0.size ≤ q) s (sarF L y d L.length)) ∧ pb_F (fun q => q < H0.size) H0 H1))) (F0 m_ 15 ls []) := by
    intro n_
    induction n_ using Nat.strongRecOn with
    | _ n_ ih15 =>
    intro k it s H hm_ hG hk hit hI hFF hS hS2 ls hl
    obtain ⟨fsI_, hIo⟩ := hI.o
    refine pb_aload C dX2_spansAround_15 (lv_at hl 3 rfl) ?_
    refine pb_go_x (bc' := 5 * (NB - k)) (bs' := 122 * (NB - k)) (pb_runF (n := 0) (rest := []) C hG (x := ⟨"java/util/Iterator", "hasNext", "()Z"⟩) (met_J15_hasNext l it t k _ V hI (hLr.kept hFF) (by omega)) hIo (ci := 16) rfl (by decide) q683 q552 q554 q76 q556 (by decide +kernel) rfl hl.1 rfl (Nat.le_of_ble_eq_true rfl) ⟨(Nat.le_of_ble_eq_true rfl), (Nat.le_of_ble_eq_true rfl)⟩ dX2_spansAround_17) (by omega) (by omega) ?_
    refine pb_ifB_eq C dX2_spansAround_22 (tgt := 75) (by decide) (fun c22_ => ?_) (fun c22_ => ?_)
    · have c22_ := of_decide_eq_false c22_
      refine pb_aload_n C dX2_spansAround_75 rfl (lv_at hl 2 rfl) ?_
      exact pb_aret C (Or.inl ⟨_, rfl⟩) dX2_spansAround_76 (Or.inr ⟨_, rfl⟩) (⟨_, rfl, by rw [show L.length = k from by omega]; exact hS, by rw [show L.length = k from by omega]; exact hS2, hFF⟩)
    · have c22_ := of_decide_eq_true c22_
      refine pb_aload C dX2_spansAround_25 (lv_at hl 3 rfl) ?_
      have hI0 := hI
      refine pb_go_r (bc' := 5 * (NB - k)) (bs' := 122 * (NB - k)) (pb_runF (n := 0) (rest := []) C hG (x := ⟨"java/util/Iterator", "next", "()Ljava/lang/Object;"⟩) (met_J15_next l it t k _ V hI (hLr.kept hFF) (by omega) (fun h9 => absurd (show it < H0.size from h9) (by omega)) (by omega)) hIo (ci := 16) rfl (by decide) q685 q561 q563 q76 q565 (by decide +kernel) rfl hl.1 rfl (Nat.le_of_ble_eq_true rfl) ⟨(Nat.le_of_ble_eq_true rfl), (Nat.le_of_ble_eq_true rfl)⟩ dX2_spansAround_27) (by omega) (by omega) (fun b_ H_ hp_ => ?_)
      obtain ⟨rfl, hI, hF1⟩ := hp_
      have hG := hG.kept (hF1.mono (fun q _ (hq : q < w.2.2.2) => show q ≠ _ from by omega))
      have hFF := hFF.tr (hF1.mono (fun q _ (hq : q < H0.size) => show q ≠ _ from by omega))
      obtain ⟨hPb, sp, hOb, hSp, hb1, hb2⟩ := (hBd k (by omega)).kept hFF
      obtain ⟨fsp_, hSo⟩ := hSp.o
      have hrgp := hSp.rg
      have hS := hS.it C.inj hI0 hF1
      have hS2 := hS2.imp id (fun h => h.it C.inj hI0 hF1)
      have hz5 := hFF.1
      refine pb_cast C hOb (ci := 4) rfl q451 dX2_spansAround_32 ?_
      refine pb_astore C dX2_spansAround_35 hl (by decide) rfl fun ls hl => ?_
      have hl : lv_has ls 6 [(5, .ref ((nV V k))), (1, .int (iZ (y))), (2, .int (iZ (d))), (3, .ref (s)), (4, .ref (it))] := hl
      refine pb_aload C dX2_spansAround_37 (lv_at hl 0 rfl) ?_
      refine pb_getN C in_X5 hOb (ci := 4) rfl 0 (by decide) q464 (fun _ h9 => h9) (v := .int (iZ ((bd L k).1))) rfl dX2_spansAround_39 ?_
      refine pb_iload_n C dX2_spansAround_42 rfl (lv_at hl 2 rfl) ?_
      refine pb_isub C dX2_spansAround_43 ?_
      refine pb_iload_n C dX2_spansAround_44 rfl (lv_at hl 1 rfl) ?_
      refine pb_icmp_gt C dX2_spansAround_45 (x := ((bd L k).1 - d)) (y := y) (tgt := 72) (by decide) (by omega) (by omega) (fun c45_ => ?_) (fun c45_ => ?_)
      · refine pb_goto C dX2_spansAround_72 (tgt := 15) (by decide) ?_
        exact pb_V.mono (by omega) (by omega) (ih15 _ (by omega) (k + 1) it s H_ rfl hG (by omega) (by omega) hI hFF (by rw [sarF, if_neg (by omega)]; exact hS) (by rw [sarF, if_neg (by omega)]; exact hS2) ls (lv_sub hl [1, 2, 3, 4] rfl))
      · refine pb_iload_n C dX2_spansAround_48 rfl (lv_at hl 1 rfl) ?_
        refine pb_aload C dX2_spansAround_49 (lv_at hl 0 rfl) ?_
        refine pb_getN C in_X5 hOb (ci := 4) rfl 2 (by decide) q471 (fun _ h9 => h9) (v := .int (iZ ((bd L k).2.1))) rfl dX2_spansAround_51 ?_
        refine pb_iload_n C dX2_spansAround_54 rfl (lv_at hl 2 rfl) ?_
        refine pb_iadd C dX2_spansAround_55 ?_
        refine pb_icmp_ge C dX2_spansAround_56 (x := y) (y := ((bd L k).2.1 + d)) (tgt := 72) (by decide) (by omega) (by omega) (fun c56_ => ?_) (fun c56_ => ?_)
        · refine pb_goto C dX2_spansAround_72 (tgt := 15) (by decide) ?_
          exact pb_V.mono (by omega) (by omega) (ih15 _ (by omega) (k + 1) it s H_ rfl hG (by omega) (by omega) hI hFF (by rw [sarF, if_neg (by omega)]; exact hS) (by rw [sarF, if_neg (by omega)]; exact hS2) ls (lv_sub hl [1, 2, 3, 4] rfl))
        · obtain ⟨fsS_, hSSo⟩ := hS.o
          refine pb_aload_n C dX2_spansAround_59 rfl (lv_at hl 3 rfl) ?_
          refine pb_aload C dX2_spansAround_60 (lv_at hl 0 rfl) ?_
          refine pb_getN C in_X5 hOb (ci := 4) rfl 1 (by decide) q468 (fun _ h9 => h9) (v := .ref (sp)) rfl dX2_spansAround_62 ?_
          refine pb_gets C (n := "UNION") (v := .ref (w.2.2.1 3)) hG.2.2.2.2.2.2.2.2.2.1.1 q895 (fun _ h9 => h9) dX2_spansAround_65 ?_
          refine pb_go_r (bc' := 5 * (NB - k) - 5) (bs' := 122 * (NB - k) - 122) (pb_runV (rest := []) C hG (met_X4_combine l s sp 0 (by decide) _ _ ((sarF L y d k)) ((bE L k)) hS hSp (hE k (by omega))) hSSo (ci := 3) rfl (lw_V q694 q695 q696 q70 q697) ⟨rfl, hdX4_combine⟩ rfl hl.1 rfl (Nat.le_of_ble_eq_true rfl) ⟨(Nat.le_of_ble_eq_true rfl), (Nat.le_of_ble_eq_true rfl)⟩ dX2_spansAround_68) (by omega) (by omega) (fun s3 H_ hp_ => ?_)
          obtain ⟨m9, hS3, hF1⟩ := hp_
          have hG := hG.kept (hF1.mono (fun q _ (hq : q < w.2.2.2) => Nat.lt_of_lt_of_le hq hG.1))
          have hFF := hFF.tr (hF1.mono (fun q _ (hq : q < H0.size) => Nat.lt_of_lt_of_le hq hFF.1))
          have hI := hI.kall (hF1.mono (fun q h _ => h))
          refine pb_astore_n C dX2_spansAround_71 rfl hl (by decide) rfl fun ls hl => ?_
          have hl : lv_has ls 6 [(3, .ref (s3)), (5, .ref ((nV V k))), (1, .int (iZ (y))), (2, .int (iZ (d))), (4, .ref (it))] := hl
          refine pb_goto C dX2_spansAround_72 (tgt := 15) (by decide) ?_
          exact pb_V.mono (by omega) (by omega) (ih15 _ (by omega) (k + 1) it s3 H_ rfl hG (by omega) (by omega) hI hFF (by rw [sarF, if_pos (by omega)]; exact hS3.sp.any) (by rw [sarF, if_pos (by omega)]; exact Or.inr (hS3.hi hz5)) ls (lv_sub hl [2, 3, 0, 4] rfl))
  refine pb_gets C (n := "NO_SPANS") (v := .ref (w.2.2.1 1)) hG.2.2.2.2.1 q692 (fun _ h9 => h9) dX2_spansAround_0 ?_
  refine pb_astore_n C dX2_spansAround_3 rfl hl (by decide) rfl fun ls hl => ?_
  have hl : lv_has ls 6 [(3, .ref (w.2.2.1 1)), (0, .ref (a)), (1, .int (iZ (y))), (2, .int (iZ (d)))] := hl
  refine pb_aload_n C dX2_spansAround_4 rfl (lv_at hl 1 rfl) ?_
  refine pb_get C in_X2 hO (ci := 1) rfl 0 (by decide) q139 (fun _ h9 => h9) (v := .ref (t)) rfl dX2_spansAround_5 ?_
  obtain ⟨fsL9_, hLo9⟩ := (hLr.kept hFF).o
  refine pb_go_r (bc' := 1 + 5 * NB - 1) (bs' := 4 + 122 * NB - 4) (pb_runF (n := 0) (rest := []) C hG (x := ⟨"java/util/List", "iterator", "()Ljava/util/Iterator;"⟩) (met_J2_iterator l t _ V (hLr.kept hFF)) hLo9 (ci := 15) rfl (by decide) q681 q523 q525 q54 q527 (by decide +kernel) rfl hl.1 rfl (Nat.le_of_ble_eq_true rfl) ⟨(Nat.le_of_ble_eq_true rfl), (Nat.le_of_ble_eq_true rfl)⟩ dX2_spansAround_8) (by omega) (by omega) (fun it H_ hp_ => ?_)
  obtain ⟨hit, hI, hF1⟩ := hp_
  have hz4 := hFF.1
  have hG := hG.kept (hF1.mono (fun _ _ _ => trivial))
  have hFF := hFF.tr (hF1.mono (fun _ _ _ => trivial))
  refine pb_astore C dX2_spansAround_13 hl (by decide) rfl fun ls hl => ?_
  have hl : lv_has ls 6 [(4, .ref (it)), (3, .ref (w.2.2.1 1)), (0, .ref (a)), (1, .int (iZ (y))), (2, .int (iZ (d)))] := hl
  exact pb_V.mono (by omega) (by omega) (L15 _ 0 it (w.2.2.1 1) H_ rfl hG (by omega) (by omega) hI hFF (by rw [sarF]; exact ((no_sp hG).any)) (Or.inl rfl) ls (lv_sub hl [3, 4, 1, 0] rfl))

set_option maxHeartbeats 1000000 in
theorem met_X2_mirrored {w : pb_W} (l : Launch) {H0 : Heap} (a : Nat) (P : Nat → Prop) (L : List Bnd) (hR : Rg w H0 P a L) (hb9 : ∀ j i, -900 ≤ eE (bE L j) i ∧ eE (bE L j) i ≤ 900) (hh9 : ∀ j, (-900 ≤ (bd L j).1 ∧ (bd L j).1 ≤ 900) ∧ (-900 ≤ (bd L j).2.1 ∧ (bd L j).2.1 ≤ 900)) (NB : Nat) (hNB : L.length ≤ NB ∧ NB ≤ 200) : pb_M w l yX2_mirrored cX2_mirrored 4 (some (.object "PolygonBoard$Region")) 8 (3 + 5 * NB + rpC NB 0) (8 + 122 * NB + rpS NB 0) [.ref (a)] H0 (pb_qr (fun r H1 => Rb w H1 H0.size r (mirF L L.length) ∧ pb_F (fun q => q < H0.size) H0 H1)) := by
  refine pb_of (by decide +kernel) (Nat.le_of_ble_eq_true rfl) ?_
  intro p_ e_ s_ m_ ar_ bl_ me_ co_ ls C hh hG hl
  have hl : lv_has ls 4 [(0, .ref (a))] := hl
  have hzs := hG.1
  have hFF : pb_F (fun q => q < H0.size) H0 H0 := pb_F.rf
  have hR := hR.below
  obtain ⟨t, V, hPa, hO, hLr, hVn, hBd⟩ := id hR
  obtain ⟨fsL_, hLo⟩ := hLr.o
  have hn9 := hLr.n
  have hrb := hR.rb
  have hm1 : (mirF L 0).length = 0 := rfl
  have hm2 : rpC NB (mirF L 0).length = rpC NB 0 ∧ rpS NB (mirF L 0).length = rpS NB 0 := ⟨rfl, rfl⟩
  have L18 : ∀ (n_ : Nat) (k it : Nat) (r : Nat) (H : Heap), V.length - k = n_ → (pb_G w s_ H) → (k ≤ V.length) → (H0.size ≤ it) → (It w H it t k V.length) → (pb_F (fun q => q < H0.size) H0 H) → (Rb w H H0.size r (mirF L k)) → ∀ (ls : Array Slot), lv_has ls 4 [(1, .ref (r)), (2, .ref (it))] → pb_V w.2.2.2 p_ l e_ (pb_rm 8 (3 + 5 * NB + rpC NB 0) (8 + 122 * NB + rpS NB 0)) s_ m_ ar_ bl_ me_ co_ H (5 * (NB - k) + rpC NB (mirF L k).length) (122 * (NB - k) + rpS NB (mirF L k).length) (pb_E w bl_ ar_ s_ (3 + 5 * NB + rpC NB 0) (8 + 122 * NB + rpS NB 0) (pb_qr (fun r H1 => Rb w H1 H0.size r (mirF L L.length) ∧ pb_F (fun q => q < H0.size) H0 H1))) (F0 m_ 18 ls []) := by
    intro n_
    induction n_ using Nat.strongRecOn with
    | _ n_ ih18 =>
    intro k it r H hm_ hG hk hit hI hFF hRb ls hl
    obtain ⟨fsI_, hIo⟩ := hI.o
    refine pb_aload_n C dX2_mirrored_18 rfl (lv_at hl 1 rfl) ?_
    refine pb_go_x (bc' := 5 * (NB - k) + rpC NB (mirF L k).length) (bs' := 122 * (NB - k) + rpS NB (mirF L k).length) (pb_runF (n := 0) (rest := []) C hG (x := ⟨"java/util/Iterator", "hasNext", "()Z"⟩) (met_J15_hasNext l it t k _ V hI (hLr.kept hFF) (by omega)) hIo (ci := 16) rfl (by decide) q683 q552 q554 q76 q556 (by decide +kernel) rfl hl.1 rfl (Nat.le_of_ble_eq_true rfl) ⟨(Nat.le_of_ble_eq_true rfl), (Nat.le_of_ble_eq_true rfl)⟩ dX2_mirrored_19) (by omega) (by omega) ?_
    refine pb_ifB_eq C dX2_mirrored_24 (tgt := 59) (by decide) (fun c24_ => ?_) (fun c24_ => ?_)
    · have c24_ := of_decide_eq_false c24_
      refine pb_aload_n C dX2_mirrored_59 rfl (lv_at hl 0 rfl) ?_
      exact pb_aret C (Or.inl ⟨_, rfl⟩) dX2_mirrored_60 (Or.inr ⟨_, rfl⟩) (⟨_, rfl, by rw [show L.length = k from by omega]; exact hRb, hFF⟩)
    · have c24_ := of_decide_eq_true c24_
      refine pb_aload_n C dX2_mirrored_27 rfl (lv_at hl 1 rfl) ?_
      have hI0 := hI
      have h0T : pb_Ty w H (w.2.2.1 0) 23 := hG.2.2.2.1.ty
      refine pb_go_r (bc' := 5 * (NB - k) + rpC NB (mirF L k).length) (bs' := 122 * (NB - k) + rpS NB (mirF L k).length) (pb_runF (n := 0) (rest := []) C hG (x := ⟨"java/util/Iterator", "next", "()Ljava/lang/Object;"⟩) (met_J15_next l it t k _ V hI (hLr.kept hFF) (by omega) (fun h9 => absurd (show it < H0.size from h9) (by omega)) (by omega)) hIo (ci := 16) rfl (by decide) q685 q561 q563 q76 q565 (by decide +kernel) rfl hl.1 rfl (Nat.le_of_ble_eq_true rfl) ⟨(Nat.le_of_ble_eq_true rfl), (Nat.le_of_ble_eq_true rfl)⟩ dX2_mirrored_28) (by omega) (by omega) (fun b_ H_ hp_ => ?_)
      obtain ⟨rfl, hI, hF1⟩ := hp_
      have hG := hG.kept (hF1.mono (fun q _ (hq : q < w.2.2.2) => show q ≠ _ from by omega))
      have hFF := hFF.tr (hF1.mono (fun q _ (hq : q < H0.size) => show q ≠ _ from by omega))
      obtain ⟨hPb, sp, hOb, hSp, hb1, hb2⟩ := (hBd k (by omega)).kept hFF
      obtain ⟨fsp_, hSo⟩ := hSp.o
      have hrgp := hSp.rg
      have hRb := hRb.it C.inj h0T hI0 hF1
      obtain ⟨HB, hHB⟩ : ∃ HB : Heap, HB = H_ := ⟨_, rfl⟩
      have hFI : pb_F (fun q => q < HB.size) HB H_ := by rw [hHB]; exact pb_F.rf
      have hzB : H0.size ≤ HB.size := by rw [hHB]; exact hFF.1
      have hRbB : Rb w HB H0.size r (mirF L k) := by rw [hHB]; exact hRb
      have hlk := mirF_len L k
      have hz5 := hFF.1
      have hl64 : (bE L k).length ≤ 64 := hrgp.2
      have hh8 := hh9 k
      refine pb_cast C hOb (ci := 4) rfl q451 dX2_mirrored_33 ?_
      refine pb_astore_n C dX2_mirrored_36 rfl hl (by decide) rfl fun ls hl => ?_
      have hl : lv_has ls 4 [(3, .ref ((nV V k))), (1, .ref (r)), (2, .ref (it))] := hl
      refine pb_aload_n C dX2_mirrored_37 rfl (lv_at hl 1 rfl) ?_
      refine pb_aload_n C dX2_mirrored_38 rfl (lv_at hl 0 rfl) ?_
      refine pb_getN C in_X5 hOb (ci := 4) rfl 0 (by decide) q464 (fun _ h9 => h9) (v := .int (iZ ((bd L k).1))) rfl dX2_mirrored_39 ?_
      refine pb_aload_n C dX2_mirrored_42 rfl (lv_at hl 0 rfl) ?_
      refine pb_getN C in_X5 hOb (ci := 4) rfl 2 (by decide) q471 (fun _ h9 => h9) (v := .int (iZ ((bd L k).2.1))) rfl dX2_mirrored_43 ?_
      refine pb_aload_n C dX2_mirrored_46 rfl (lv_at hl 0 rfl) ?_
      refine pb_getN C in_X5 hOb (ci := 4) rfl 1 (by decide) q468 (fun _ h9 => h9) (v := .ref (sp)) rfl dX2_mirrored_47 ?_
      refine pb_go_r (bc' := 5 * (NB - k) + rpC NB (mirF L k).length - 5) (bs' := 122 * (NB - k) + rpS NB (mirF L k).length - 122) (pb_runV (rest := [.int (iZ ((bd L k).2.1)), .int (iZ ((bd L k).1)), .ref (r)]) C hG (met_X4_mirrored l sp _ (bE L k) hSp (hb9 k) (fun k8 hk8 => Nat.le_trans (mrE_len _ _ _) (by omega))) hSo (ci := 3) rfl (lw_V q960 q961 q962 q70 q963) ⟨rfl, hdX4_mirrored⟩ rfl hl.1 rfl (Nat.le_of_ble_eq_true rfl) ⟨(Nat.le_of_ble_eq_true rfl), (Nat.le_of_ble_eq_true rfl)⟩ dX2_mirrored_50) (by omega) (by omega) (fun s3 H_ hp_ => ?_)
      obtain ⟨m9, hS3, hF1⟩ := hp_
      have hG := hG.kept (hF1.mono (fun q _ (hq : q < w.2.2.2) => Nat.lt_of_lt_of_le hq hG.1))
      have hFF := hFF.tr (hF1.mono (fun q _ (hq : q < H0.size) => Nat.lt_of_lt_of_le hq hFF.1))
      have hFI := hFI.tr (hF1.mono (fun q _ (hq : q < HB.size) => Nat.lt_of_lt_of_le hq hFI.1))
      have hI9 := hI.kall (hF1.mono (fun q h _ => h))
      have hRb := hRbB.kept (hFI.mono (fun q h _ => h))
      obtain ⟨fsR_, hRbo⟩ := hRb.o
      have hpot := radd_pot (L := mirF L k) (lo := (bd L k).1) (hi := (bd L k).2.1) (E := (mrE (bE L k) ((bE L k).length / 2) ((bE L k).length / 2))) (N := NB) (Nat.le_trans (radd_n hlk) (by omega))
      rw [show radd (mirF L k) ((bd L k).1) ((bd L k).2.1) (mrE (bE L k) ((bE L k).length / 2) ((bE L k).length / 2)) = mirF L (k + 1) from rfl] at hpot
      refine pb_go_v (bc' := 5 * (NB - k) + rpC NB (mirF L k).length - 5 - ((radc ((mirF L k)) ((bd L k).1) ((bd L k).2.1) ((mrE (bE L k) ((bE L k).length / 2) ((bE L k).length / 2)))))) (bs' := 122 * (NB - k) + rpS NB (mirF L k).length - 122 - ((rads ((mirF L k)) ((bd L k).1) ((bd L k).2.1) ((mrE (bE L k) ((bE L k).length / 2) ((bE L k).length / 2)))))) (pb_runV (rest := []) C hG (met_X2_add l H0.size r _ ((mirF L k)) ((mrE (bE L k) ((bE L k).length / 2) ((bE L k).length / 2))) ((bd L k).1) ((bd L k).2.1) (by omega) hRb (hS3.hi hz5) (by omega) (by omega) (by omega)) hRbo (ci := 1) rfl (lw_V q423 q424 q425 q55 q426) ⟨rfl, hdX2_add⟩ rfl hl.1 rfl (Nat.le_of_ble_eq_true rfl) ⟨(Nat.le_of_ble_eq_true rfl), (Nat.le_of_ble_eq_true rfl)⟩ dX2_mirrored_53) (by omega) (by omega) (fun H_ hp_ => ?_)
      obtain ⟨hRb, hFA⟩ := hp_
      have hG := hG.kept (hFA.mono (fun q _ (hq : q < w.2.2.2) => Or.inl (by omega)))
      have hFF := hFF.tr (hFA.mono (fun q _ hq => Or.inl hq))
      refine pb_goto C dX2_mirrored_56 (tgt := 18) (by decide) ?_
      exact pb_V.mono (by omega) (by omega) (ih18 _ (by omega) (k + 1) it r H_ rfl hG (by omega) (by omega) (hI9.fa hFA) hFF (by rw [mirF]; exact hRb) ls (lv_sub hl [1, 2] rfl))
  refine pb_newE C in_X2 tyX2 tyX2_ok (ci := 1) rfl q402 q131 q55 (fs := [.null]) (by decide) (bc' := 3 + 5 * NB + rpC NB 0 - 1) (bs' := 8 + 122 * NB + rpS NB 0 - 1) (by omega) (by omega) dX2_mirrored_0 fun a1_ H1_ ha_ hn_ hN1_ => ?_
  have hs1_ : H1_.size = H0.size + 1 := hn_.1
  have hG := hG.kept (hn_.f.mono (fun _ _ _ => trivial))
  have hO := hO.kept (hn_.2 _ hO.lt)
  have hz7 := hFF.1
  have hFF := hFF.tr (hn_.f.mono (fun _ _ _ => trivial))
  obtain rfl : a1_ = H0.size := by omega
  skip
  have hN := hN1_
  refine pb_dup C dX2_mirrored_3 rfl ?_
  have hz9 := hFF.1
  refine pb_go_v (bc' := 3 + 5 * NB + rpC NB 0 - 1 - 1) (bs' := 8 + 122 * NB + rpS NB 0 - 1 - 3) (pb_runI (rest := [.ref (H0.size)]) C hG (met_X2_init l H0.size H0.size (by omega) (by omega) hN) q403 q133 q55 q134 rfl hdX2_init rfl hl.1 rfl (Nat.le_of_ble_eq_true rfl) ⟨(Nat.le_of_ble_eq_true rfl), (Nat.le_of_ble_eq_true rfl)⟩ dX2_mirrored_4) (by omega) (by omega) (fun H_ hp_ => ?_)
  obtain ⟨hRb, hF1⟩ := hp_
  have hG := hG.kept (hF1.mono (fun q _ (hq : q < w.2.2.2) => Or.inl (by omega)))
  have hFF := hFF.tr (hF1.mono (fun q _ hq => Or.inl hq))
  have hO := hO.kept (hF1.2 _ hO.lt (Or.inl hPa))
  refine pb_astore_n C dX2_mirrored_7 rfl hl (by decide) rfl fun ls hl => ?_
  have hl : lv_has ls 4 [(1, .ref (H0.size)), (0, .ref (a))] := hl
  have hm0 : mirF L 0 = [] := rfl
  have hm1 : (mirF L 0).length = 0 := rfl
  refine pb_aload_n C dX2_mirrored_8 rfl (lv_at hl 1 rfl) ?_
  refine pb_get C in_X2 hO (ci := 1) rfl 0 (by decide) q139 (fun _ h9 => h9) (v := .ref (t)) rfl dX2_mirrored_9 ?_
  obtain ⟨fsL9_, hLo9⟩ := (hLr.kept hFF).o
  refine pb_go_r (bc' := 3 + 5 * NB + rpC NB 0 - 1 - 1 - 1) (bs' := 8 + 122 * NB + rpS NB 0 - 1 - 3 - 4) (pb_runF (n := 0) (rest := []) C hG (x := ⟨"java/util/List", "iterator", "()Ljava/util/Iterator;"⟩) (met_J2_iterator l t _ V (hLr.kept hFF)) hLo9 (ci := 15) rfl (by decide) q681 q523 q525 q54 q527 (by decide +kernel) rfl hl.1 rfl (Nat.le_of_ble_eq_true rfl) ⟨(Nat.le_of_ble_eq_true rfl), (Nat.le_of_ble_eq_true rfl)⟩ dX2_mirrored_12) (by omega) (by omega) (fun it H_ hp_ => ?_)
  obtain ⟨hit, hI, hF1⟩ := hp_
  have hz4 := hFF.1
  have hG := hG.kept (hF1.mono (fun _ _ _ => trivial))
  have hFF := hFF.tr (hF1.mono (fun _ _ _ => trivial))
  have hRb := hRb.kept (hF1.mono (fun _ _ _ => trivial))
  refine pb_astore_n C dX2_mirrored_17 rfl hl (by decide) rfl fun ls hl => ?_
  have hl : lv_has ls 4 [(2, .ref (it)), (1, .ref (H0.size)), (0, .ref (a))] := hl
  exact pb_V.mono (by omega) (by omega) (L18 _ 0 it H0.size H_ rfl hG (by omega) (by omega) hI hFF hRb ls (lv_sub hl [1, 0] rfl))

