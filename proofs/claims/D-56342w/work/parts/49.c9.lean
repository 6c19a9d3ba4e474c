set_option maxRecDepth 100000
set_option maxHeartbeats 1000000 in
theorem met_X2_left {w : pb_W} (l : Launch) {H0 : Heap} (a : Nat) (P : Nat → Prop) (L : List Bnd) (hR : Rg w H0 P a L) (hne : ∀ j, j < L.length → 2 ≤ (bE L j).length) : pb_M w l yX2_left cX2_left 4 (some .int) 3 (1) (4) [.ref (a)] H0 (pb_qi (fun z H1 => z = leftF L L.length ∧ pb_F (fun q => q < H0.size) H0 H1)) := by
  refine pb_of (by decide +kernel) (Nat.le_of_ble_eq_true rfl) ?_
  intro p_ e_ s_ m_ ar_ bl_ me_ co_ ls C hh hG hl
  have hl : lv_has ls 4 [(0, .ref (a))] := hl
  have hzs := hG.1
  have hFF : pb_F (fun q => q < H0.size) H0 H0 := pb_F.rf
  have hR := hR.below
  obtain ⟨t, V, hPa, hO, hLr, hVn, hBd⟩ := id hR
  obtain ⟨fsL_, hLo⟩ := hLr.o
  have hn9 := hLr.n
  have hrb := hR.rb
  have L13 : ∀ (n_ : Nat) (k it : Nat) (t9 : Int) (H : Heap), V.length - k = n_ → (pb_G w s_ H) → (k ≤ V.length) → (H0.size ≤ it) → (It w H it t k V.length) → (pb_F (fun q => q < H0.size) H0 H) → (t9 = leftF L k) → (-1000 ≤ t9 ∧ t9 ≤ 1000) → ∀ (ls : Array Slot), lv_has ls 4 [(1, .int (iZ (t9))), (2, .ref (it))] → pb_V w.2.2.2 p_ l e_ (pb_rm 3 (1) (4)) s_ m_ ar_ bl_ me_ co_ H (0) (0) (pb_E w bl_ ar_ s_ (1) (4) (pb_qi (fun z H1 => z = leftF L L.length ∧ pb_F (fun q => q < H0.size) H0 H1))) (F0 m_ 13 ls []) := by
    intro n_
    induction n_ using Nat.strongRecOn with
    | _ n_ ih13 =>
    intro k it t9 H hm_ hG hk hit hI hFF ht htr ls hl
    obtain ⟨fsI_, hIo⟩ := hI.o
    refine pb_aload_n C dX2_left_13 rfl (lv_at hl 1 rfl) ?_
    refine pb_go_x (bc' := 0) (bs' := 0) (pb_runF (n := 0) (rest := []) C hG (x := ⟨"java/util/Iterator", "hasNext", "()Z"⟩) (met_J15_hasNext l it t k _ V hI (hLr.kept hFF) (by omega)) hIo (ci := 16) rfl (by decide) q683 q552 q554 q76 q556 (by decide +kernel) rfl hl.1 rfl (Nat.le_of_ble_eq_true rfl) ⟨(Nat.le_of_ble_eq_true rfl), (Nat.le_of_ble_eq_true rfl)⟩ dX2_left_14) (by omega) (by omega) ?_
    refine pb_ifB_eq C dX2_left_19 (tgt := 48) (by decide) (fun c19_ => ?_) (fun c19_ => ?_)
    · have c19_ := of_decide_eq_false c19_
      refine pb_iload_n C dX2_left_48 rfl (lv_at hl 0 rfl) ?_
      exact pb_iret C dX2_left_49 (⟨_, rfl, by rw [ht, show L.length = k from by omega], hFF⟩)
    · have c19_ := of_decide_eq_true c19_
      refine pb_aload_n C dX2_left_22 rfl (lv_at hl 1 rfl) ?_
      refine pb_go_r (bc' := 0) (bs' := 0) (pb_runF (n := 0) (rest := []) C hG (x := ⟨"java/util/Iterator", "next", "()Ljava/lang/Object;"⟩) (met_J15_next l it t k _ V hI (hLr.kept hFF) (by omega) (fun h9 => absurd (show it < H0.size from h9) (by omega)) (by omega)) hIo (ci := 16) rfl (by decide) q685 q561 q563 q76 q565 (by decide +kernel) rfl hl.1 rfl (Nat.le_of_ble_eq_true rfl) ⟨(Nat.le_of_ble_eq_true rfl), (Nat.le_of_ble_eq_true rfl)⟩ dX2_left_23) (by omega) (by omega) (fun b_ H_ hp_ => ?_)
      obtain ⟨rfl, hI, hF1⟩ := hp_
      have hG := hG.kept (hF1.mono (fun q _ (hq : q < w.2.2.2) => show q ≠ _ from by omega))
      have hFF := hFF.tr (hF1.mono (fun q _ (hq : q < H0.size) => show q ≠ _ from by omega))
      obtain ⟨hPb, sp, hOb, hSp, hb1, hb2⟩ := (hBd k (by omega)).kept hFF
      obtain ⟨fsp_, hSo⟩ := hSp.o
      have hrgp := hSp.rg
      refine pb_cast C hOb (ci := 4) rfl q451 dX2_left_28 ?_
      refine pb_astore_n C dX2_left_31 rfl hl (by decide) rfl fun ls hl => ?_
      have hl : lv_has ls 4 [(3, .ref ((nV V k))), (1, .int (iZ (t9))), (2, .ref (it))] := hl
      have hn2 := hne k (by omega)
      have her : -1000 ≤ eE (bE L k) (2 * 0) ∧ eE (bE L k) (2 * 0) ≤ 1000 := eE_rg hrgp.1
      refine pb_iload_n C dX2_left_32 rfl (lv_at hl 1 rfl) ?_
      refine pb_aload_n C dX2_left_33 rfl (lv_at hl 0 rfl) ?_
      refine pb_getN C in_X5 hOb (ci := 4) rfl 1 (by decide) q468 (fun _ h9 => h9) (v := .ref (sp)) rfl dX2_left_34 ?_
      refine pb_ic C dX2_left_37 ?_
      refine pb_go_x (bc' := 0) (bs' := 0) (pb_runV (rest := [.int (iZ (t9))]) C hG (met_X4_left l sp _ (bE L k) hSp 0 (by omega)) hSo (ci := 3) rfl (lw_V q1361 q588 q589 q70 q590) ⟨rfl, hdX4_left⟩ rfl hl.1 rfl (Nat.le_of_ble_eq_true rfl) ⟨(Nat.le_of_ble_eq_true rfl), (Nat.le_of_ble_eq_true rfl)⟩ dX2_left_38) (by omega) (by omega) ?_
      refine pb_mmin C (x := t9) (y := (eE (bE L k) (2 * 0))) q672 q220 q57 q221 hl.1 ⟨(Nat.le_of_ble_eq_true rfl), (Nat.le_of_ble_eq_true rfl)⟩ (by omega) (by omega) dX2_left_41 ?_
      refine pb_istore_n C dX2_left_44 rfl hl (by decide) rfl fun ls hl => ?_
      have hl : lv_has ls 4 [(1, .int (iZ ((min t9 ((eE (bE L k) (2 * 0))))))), (3, .ref ((nV V k))), (2, .ref (it))] := hl
      refine pb_goto C dX2_left_45 (tgt := 13) (by decide) ?_
      exact pb_V.mono (by omega) (by omega) (ih13 _ (by omega) (k + 1) it (min t9 ((eE (bE L k) (2 * 0)))) H_ rfl hG (by omega) (by omega) hI hFF (by rw [leftF, ← ht]) (by omega) ls (lv_sub hl [0, 2] rfl))
  refine pb_bip C dX2_left_0 (by decide) ?_
  refine pb_istore_n C dX2_left_2 rfl hl (by decide) rfl fun ls hl => ?_
  have hl : lv_has ls 4 [(1, .int (iZ (24))), (0, .ref (a))] := hl
  refine pb_aload_n C dX2_left_3 rfl (lv_at hl 1 rfl) ?_
  refine pb_get C in_X2 hO (ci := 1) rfl 0 (by decide) q139 (fun _ h9 => h9) (v := .ref (t)) rfl dX2_left_4 ?_
  obtain ⟨fsL9_, hLo9⟩ := (hLr.kept hFF).o
  refine pb_go_r (bc' := 0) (bs' := 0) (pb_runF (n := 0) (rest := []) C hG (x := ⟨"java/util/List", "iterator", "()Ljava/util/Iterator;"⟩) (met_J2_iterator l t _ V (hLr.kept hFF)) hLo9 (ci := 15) rfl (by decide) q681 q523 q525 q54 q527 (by decide +kernel) rfl hl.1 rfl (Nat.le_of_ble_eq_true rfl) ⟨(Nat.le_of_ble_eq_true rfl), (Nat.le_of_ble_eq_true rfl)⟩ dX2_left_7) (by omega) (by omega) (fun it H_ hp_ => ?_)
  obtain ⟨hit, hI, hF1⟩ := hp_
  have hz4 := hFF.1
  have hG := hG.kept (hF1.mono (fun _ _ _ => trivial))
  have hFF := hFF.tr (hF1.mono (fun _ _ _ => trivial))
  refine pb_astore_n C dX2_left_12 rfl hl (by decide) rfl fun ls hl => ?_
  have hl : lv_has ls 4 [(2, .ref (it)), (1, .int (iZ (24))), (0, .ref (a))] := hl
  exact pb_V.mono (by omega) (by omega) (L13 _ 0 it 24 H_ rfl hG (by omega) (by omega) hI hFF rfl (by omega) ls (lv_sub hl [1, 0] rfl))

set_option maxHeartbeats 1000000 in
theorem met_X2_right {w : pb_W} (l : Launch) {H0 : Heap} (a : Nat) (P : Nat → Prop) (L : List Bnd) (hR : Rg w H0 P a L) (hne : ∀ j, j < L.length → 2 ≤ (bE L j).length) : pb_M w l yX2_right cX2_right 4 (some .int) 3 (1) (4) [.ref (a)] H0 (pb_qi (fun z H1 => z = rightF L L.length ∧ pb_F (fun q => q < H0.size) H0 H1)) := by
  refine pb_of (by decide +kernel) (Nat.le_of_ble_eq_true rfl) ?_
  intro p_ e_ s_ m_ ar_ bl_ me_ co_ ls C hh hG hl
  have hl : lv_has ls 4 [(0, .ref (a))] := hl
  have hzs := hG.1
  have hFF : pb_F (fun q => q < H0.size) H0 H0 := pb_F.rf
  have hR := hR.below
  obtain ⟨t, V, hPa, hO, hLr, hVn, hBd⟩ := id hR
  obtain ⟨fsL_, hLo⟩ := hLr.o
  have hn9 := hLr.n
  have hrb := hR.rb
  have L12 : ∀ (n_ : Nat) (k it : Nat) (t9 : Int) (H : Heap), V.length - k = n_ → (pb_G w s_ H) → (k ≤ V.length) → (H0.size ≤ it) → (It w H it t k V.length) → (pb_F (fun q => q < H0.size) H0 H) → (t9 = rightF L k) → (-1000 ≤ t9 ∧ t9 ≤ 1000) → ∀ (ls : Array Slot), lv_has ls 4 [(1, .int (iZ (t9))), (2, .ref (it))] → pb_V w.2.2.2 p_ l e_ (pb_rm 3 (1) (4)) s_ m_ ar_ bl_ me_ co_ H (0) (0) (pb_E w bl_ ar_ s_ (1) (4) (pb_qi (fun z H1 => z = rightF L L.length ∧ pb_F (fun q => q < H0.size) H0 H1))) (F0 m_ 12 ls []) := by
    intro n_
    induction n_ using Nat.strongRecOn with
    | _ n_ ih12 =>
    intro k it t9 H hm_ hG hk hit hI hFF ht htr ls hl
    obtain ⟨fsI_, hIo⟩ := hI.o
    refine pb_aload_n C dX2_right_12 rfl (lv_at hl 1 rfl) ?_
    refine pb_go_x (bc' := 0) (bs' := 0) (pb_runF (n := 0) (rest := []) C hG (x := ⟨"java/util/Iterator", "hasNext", "()Z"⟩) (met_J15_hasNext l it t k _ V hI (hLr.kept hFF) (by omega)) hIo (ci := 16) rfl (by decide) q683 q552 q554 q76 q556 (by decide +kernel) rfl hl.1 rfl (Nat.le_of_ble_eq_true rfl) ⟨(Nat.le_of_ble_eq_true rfl), (Nat.le_of_ble_eq_true rfl)⟩ dX2_right_13) (by omega) (by omega) ?_
    refine pb_ifB_eq C dX2_right_18 (tgt := 55) (by decide) (fun c18_ => ?_) (fun c18_ => ?_)
    · have c18_ := of_decide_eq_false c18_
      refine pb_iload_n C dX2_right_55 rfl (lv_at hl 0 rfl) ?_
      exact pb_iret C dX2_right_56 (⟨_, rfl, by rw [ht, show L.length = k from by omega], hFF⟩)
    · have c18_ := of_decide_eq_true c18_
      refine pb_aload_n C dX2_right_21 rfl (lv_at hl 1 rfl) ?_
      refine pb_go_r (bc' := 0) (bs' := 0) (pb_runF (n := 0) (rest := []) C hG (x := ⟨"java/util/Iterator", "next", "()Ljava/lang/Object;"⟩) (met_J15_next l it t k _ V hI (hLr.kept hFF) (by omega) (fun h9 => absurd (show it < H0.size from h9) (by omega)) (by omega)) hIo (ci := 16) rfl (by decide) q685 q561 q563 q76 q565 (by decide +kernel) rfl hl.1 rfl (Nat.le_of_ble_eq_true rfl) ⟨(Nat.le_of_ble_eq_true rfl), (Nat.le_of_ble_eq_true rfl)⟩ dX2_right_22) (by omega) (by omega) (fun b_ H_ hp_ => ?_)
      obtain ⟨rfl, hI, hF1⟩ := hp_
      have hG := hG.kept (hF1.mono (fun q _ (hq : q < w.2.2.2) => show q ≠ _ from by omega))
      have hFF := hFF.tr (hF1.mono (fun q _ (hq : q < H0.size) => show q ≠ _ from by omega))
      obtain ⟨hPb, sp, hOb, hSp, hb1, hb2⟩ := (hBd k (by omega)).kept hFF
      obtain ⟨fsp_, hSo⟩ := hSp.o
      have hrgp := hSp.rg
      refine pb_cast C hOb (ci := 4) rfl q451 dX2_right_27 ?_
      refine pb_astore_n C dX2_right_30 rfl hl (by decide) rfl fun ls hl => ?_
      have hl : lv_has ls 4 [(3, .ref ((nV V k))), (1, .int (iZ (t9))), (2, .ref (it))] := hl
      have hn2 := hne k (by omega)
      have her : -1000 ≤ eE (bE L k) (2 * ((bE L k).length / 2 - 1) + 1) ∧ eE (bE L k) (2 * ((bE L k).length / 2 - 1) + 1) ≤ 1000 := eE_rg hrgp.1
      refine pb_iload_n C dX2_right_31 rfl (lv_at hl 1 rfl) ?_
      refine pb_aload_n C dX2_right_32 rfl (lv_at hl 0 rfl) ?_
      refine pb_getN C in_X5 hOb (ci := 4) rfl 1 (by decide) q468 (fun _ h9 => h9) (v := .ref (sp)) rfl dX2_right_33 ?_
      refine pb_aload_n C dX2_right_36 rfl (lv_at hl 0 rfl) ?_
      refine pb_getN C in_X5 hOb (ci := 4) rfl 1 (by decide) q468 (fun _ h9 => h9) (v := .ref (sp)) rfl dX2_right_37 ?_
      refine pb_go_x (bc' := 0) (bs' := 0) (pb_runV (rest := [.ref (sp), .int (iZ (t9))]) C hG (met_X4_size l sp _ (bE L k) hSp) hSo (ci := 3) rfl (lw_V q427 q428 q429 q70 q430) ⟨rfl, hdX4_size⟩ rfl hl.1 rfl (Nat.le_of_ble_eq_true rfl) ⟨(Nat.le_of_ble_eq_true rfl), (Nat.le_of_ble_eq_true rfl)⟩ dX2_right_40) (by omega) (by omega) ?_
      refine pb_ic C dX2_right_43 ?_
      refine pb_isub C dX2_right_44 ?_
      refine pb_eq (g2 := F0 m_ 45 ls [.int (iZ (((((bE L k).length / 2 - 1) : Nat) : Int))), .ref (sp), .int (iZ (t9))]) (congrArg (fun z9 => F0 m_ 45 ls [.int (iZ z9), .ref (sp), .int (iZ (t9))]) (show (((((bE L k).length / 2) : Nat) : Int) - 1) = ((((bE L k).length / 2 - 1) : Nat) : Int) from (by omega))) ?_
      refine pb_go_x (bc' := 0) (bs' := 0) (pb_runV (rest := [.int (iZ (t9))]) C hG (met_X4_right l sp _ (bE L k) hSp ((bE L k).length / 2 - 1) (by omega)) hSo (ci := 3) rfl (lw_V q1373 q592 q593 q70 q594) ⟨rfl, hdX4_right⟩ rfl hl.1 rfl (Nat.le_of_ble_eq_true rfl) ⟨(Nat.le_of_ble_eq_true rfl), (Nat.le_of_ble_eq_true rfl)⟩ dX2_right_45) (by omega) (by omega) ?_
      refine pb_mmax C (x := t9) (y := (eE (bE L k) (2 * ((bE L k).length / 2 - 1) + 1))) q686 q171 q57 q172 hl.1 ⟨(Nat.le_of_ble_eq_true rfl), (Nat.le_of_ble_eq_true rfl)⟩ (by omega) (by omega) dX2_right_48 ?_
      refine pb_istore_n C dX2_right_51 rfl hl (by decide) rfl fun ls hl => ?_
      have hl : lv_has ls 4 [(1, .int (iZ ((max t9 ((eE (bE L k) (2 * ((bE L k).length / 2 - 1) + 1))))))), (3, .ref ((nV V k))), (2, .ref (it))] := hl
      refine pb_goto C dX2_right_52 (tgt := 12) (by decide) ?_
      exact pb_V.mono (by omega) (by omega) (ih12 _ (by omega) (k + 1) it (max t9 ((eE (bE L k) (2 * ((bE L k).length / 2 - 1) + 1)))) H_ rfl hG (by omega) (by omega) hI hFF (by rw [rightF, ← ht]) (by omega) ls (lv_sub hl [0, 2] rfl))
  refine pb_ic C dX2_right_0 ?_
  refine pb_istore_n C dX2_right_1 rfl hl (by decide) rfl fun ls hl => ?_
  have hl : lv_has ls 4 [(1, .int (iZ (0))), (0, .ref (a))] := hl
  refine pb_aload_n C dX2_right_2 rfl (lv_at hl 1 rfl) ?_
  refine pb_get C in_X2 hO (ci := 1) rfl 0 (by decide) q139 (fun _ h9 => h9) (v := .ref (t)) rfl dX2_right_3 ?_
  obtain ⟨fsL9_, hLo9⟩ := (hLr.kept hFF).o
  refine pb_go_r (bc' := 0) (bs' := 0) (pb_runF (n := 0) (rest := []) C hG (x := ⟨"java/util/List", "iterator", "()Ljava/util/Iterator;"⟩) (met_J2_iterator l t _ V (hLr.kept hFF)) hLo9 (ci := 15) rfl (by decide) q681 q523 q525 q54 q527 (by decide +kernel) rfl hl.1 rfl (Nat.le_of_ble_eq_true rfl) ⟨(Nat.le_of_ble_eq_true rfl), (Nat.le_of_ble_eq_true rfl)⟩ dX2_right_6) (by omega) (by omega) (fun it H_ hp_ => ?_)
  obtain ⟨hit, hI, hF1⟩ := hp_
  have hz4 := hFF.1
  have hG := hG.kept (hF1.mono (fun _ _ _ => trivial))
  have hFF := hFF.tr (hF1.mono (fun _ _ _ => trivial))
  refine pb_astore_n C dX2_right_11 rfl hl (by decide) rfl fun ls hl => ?_
  have hl : lv_has ls 4 [(2, .ref (it)), (1, .int (iZ (0))), (0, .ref (a))] := hl
  exact pb_V.mono (by omega) (by omega) (L12 _ 0 it 0 H_ rfl hG (by omega) (by omega) hI hFF rfl (by omega) ls (lv_sub hl [1, 0] rfl))

set_option maxHeartbeats 1000000 in
theorem met_X2_differenceOf {w : pb_W} (l : Launch) {H0 : Heap} (a b : Nat) (P P2 : Nat → Prop) (E F : List Int) (hS : Sp w H0 P a E) (hT : Sp w H0 P2 b F) (hE : ∀ n, n ≤ E.length + F.length → (cmS 3 E F n).2.2.2.length ≤ 64) : pb_M w l yX2_differenceOf cX2_differenceOf 2 (some .int) 4 (5) (122) [.ref (a), .ref (b)] H0 (pb_qi (fun z H1 => z = difE E F ∧ pb_F (fun q => q < H0.size) H0 H1)) := by
  refine pb_of (by decide +kernel) (Nat.le_of_ble_eq_true rfl) ?_
  intro p_ e_ s_ m_ ar_ bl_ me_ co_ ls C hh hG hl
  have hl : lv_has ls 2 [(0, .ref (a)), (1, .ref (b))] := hl
  have hzs := hG.1
  have hFF : pb_F (fun q => q < H0.size) H0 H0 := pb_F.rf
  obtain ⟨fsS_, hSo⟩ := hS.o
  refine pb_aload_n C dX2_differenceOf_0 rfl (lv_at hl 0 rfl) ?_
  refine pb_aload_n C dX2_differenceOf_1 rfl (lv_at hl 1 rfl) ?_
  refine pb_gets C (n := "EXCLUSIVE") (v := .ref (w.2.2.1 6)) hG.2.2.2.2.2.2.2.2.2.2.2.2.1.1 q1154 (fun _ h9 => h9) dX2_differenceOf_2 ?_
  refine pb_go_r (bc' := 0) (bs' := 0) (pb_runV (rest := []) C hG (met_X4_combine l a b 3 (by decide) _ _ E F hS hT hE) hSo (ci := 3) rfl (lw_V q694 q695 q696 q70 q697) ⟨rfl, hdX4_combine⟩ rfl hl.1 rfl (Nat.le_of_ble_eq_true rfl) ⟨(Nat.le_of_ble_eq_true rfl), (Nat.le_of_ble_eq_true rfl)⟩ dX2_differenceOf_5) (by omega) (by omega) (fun s3 H_ hp_ => ?_)
  obtain ⟨m9, hS3, hF1⟩ := hp_
  have hG := hG.kept (hF1.mono (fun q _ (hq : q < w.2.2.2) => Nat.lt_of_lt_of_le hq hG.1))
  have hFF := hFF.tr (hF1.mono (fun q _ (hq : q < H0.size) => Nat.lt_of_lt_of_le hq hFF.1))
  have hS4 := hS3.sp
  obtain ⟨fs3_, hS3o⟩ := hS4.o
  refine pb_go_x (bc' := 0) (bs' := 0) (pb_runV (rest := []) C hG (met_X4_length l s3 _ (cmE 3 E F) hS4) hS3o (ci := 3) rfl (lw_V q1156 q1157 q1158 q70 q1159) ⟨rfl, hdX4_length⟩ rfl hl.1 rfl (Nat.le_of_ble_eq_true rfl) ⟨(Nat.le_of_ble_eq_true rfl), (Nat.le_of_ble_eq_true rfl)⟩ dX2_differenceOf_8) (by omega) (by omega) ?_
  exact pb_iret C dX2_differenceOf_11 (⟨_, rfl, rfl, hFF⟩)

set_option maxHeartbeats 1000000 in
theorem met_X2_perimeter {w : pb_W} (l : Launch) {H0 : Heap} (a : Nat) (P : Nat → Prop) (L : List Bnd) (hR : Rg w H0 P a L) (hE : ∀ k y, k < L.length → ∀ n, n ≤ (bE L k).length + (rowL L y).length → (cmS 3 (bE L k) (rowL L y) n).2.2.2.length ≤ 64) : pb_M w l yX2_perimeter cX2_perimeter 4 (some .int) 5 (1 + 7 * L.length) (4 + 130 * L.length) [.ref (a)] H0 (pb_qi (fun z H1 => z = perF L L.length ∧ pb_F (fun q => q < H0.size) H0 H1)) := by
  refine pb_of (by decide +kernel) (Nat.le_of_ble_eq_true rfl) ?_
  intro p_ e_ s_ m_ ar_ bl_ me_ co_ ls C hh hG hl
  have hl : lv_has ls 4 [(0, .ref (a))] := hl
  have hzs := hG.1
  have hFF : pb_F (fun q => q < H0.size) H0 H0 := pb_F.rf
  have hR := hR.below
  obtain ⟨t, V, hPa, hO, hLr, hVn, hBd⟩ := id hR
  obtain ⟨fsL_, hLo⟩ := hLr.o
  have hn9 := hLr.n
  have hrb := hR.rb
  have L12 : ∀ (n_ : Nat) (k it : Nat) (t9 : Int) (H : Heap), V.length - k = n_ → (pb_G w s_ H) → (k ≤ V.length) → (H0.size ≤ it) → (It w H it t k V.length) → (pb_F (fun q => q < H0.size) H0 H) → (t9 = perF L k) → ∀ (ls : Array Slot), lv_has ls 4 [(0, .ref (a)), (1, .int (iZ (t9))), (2, .ref (it))] → pb_V w.2.2.2 p_ l e_ (pb_rm 5 (1 + 7 * L.length) (4 + 130 * L.length)) s_ m_ ar_ bl_ me_ co_ H (7 * (L.length - k)) (130 * (L.length - k)) (pb_E w bl_ ar_ s_ (1 + 7 * L.length) (4 + 130 * L.length) (pb_qi (fun z H1 => z = perF L L.length ∧ pb_F (fun q => q < H0.size) H0 H1))) (F0 m_ 12 ls []) := by
    intro n_
    induction n_ using Nat.strongRecOn with
    | _ n_ ih12 =>
    intro k it t9 H hm_ hG hk hit hI hFF ht ls hl
    obtain ⟨fsI_, hIo⟩ := hI.o
    refine pb_aload_n C dX2_perimeter_12 rfl (lv_at hl 2 rfl) ?_
    refine pb_go_x (bc' := 7 * (L.length - k)) (bs' := 130 * (L.length - k)) (pb_runF (n := 0) (rest := []) C hG (x := ⟨"java/util/Iterator", "hasNext", "()Z"⟩) (met_J15_hasNext l it t k _ V hI (hLr.kept hFF) (by omega)) hIo (ci := 16) rfl (by decide) q683 q552 q554 q76 q556 (by decide +kernel) rfl hl.1 rfl (Nat.le_of_ble_eq_true rfl) ⟨(Nat.le_of_ble_eq_true rfl), (Nat.le_of_ble_eq_true rfl)⟩ dX2_perimeter_13) (by omega) (by omega) ?_
    refine pb_ifB_eq C dX2_perimeter_18 (tgt := 99) (by decide) (fun c18_ => ?_) (fun c18_ => ?_)
    · have c18_ := of_decide_eq_false c18_
      refine pb_iload_n C dX2_perimeter_99 rfl (lv_at hl 1 rfl) ?_
      exact pb_iret C dX2_perimeter_100 (⟨_, rfl, by rw [ht, show L.length = k from by omega], hFF⟩)
    · have c18_ := of_decide_eq_true c18_
      refine pb_aload_n C dX2_perimeter_21 rfl (lv_at hl 2 rfl) ?_
      refine pb_go_r (bc' := 7 * (L.length - k)) (bs' := 130 * (L.length - k)) (pb_runF (n := 0) (rest := []) C hG (x := ⟨"java/util/Iterator", "next", "()Ljava/lang/Object;"⟩) (met_J15_next l it t k _ V hI (hLr.kept hFF) (by omega) (fun h9 => absurd (show it < H0.size from h9) (by omega)) (by omega)) hIo (ci := 16) rfl (by decide) q685 q561 q563 q76 q565 (by decide +kernel) rfl hl.1 rfl (Nat.le_of_ble_eq_true rfl) ⟨(Nat.le_of_ble_eq_true rfl), (Nat.le_of_ble_eq_true rfl)⟩ dX2_perimeter_22) (by omega) (by omega) (fun b_ H_ hp_ => ?_)
      obtain ⟨rfl, hI, hF1⟩ := hp_
      have hG := hG.kept (hF1.mono (fun q _ (hq : q < w.2.2.2) => show q ≠ _ from by omega))
      have hFF := hFF.tr (hF1.mono (fun q _ (hq : q < H0.size) => show q ≠ _ from by omega))
      obtain ⟨hPb, sp, hOb, hSp, hb1, hb2⟩ := (hBd k (by omega)).kept hFF
      obtain ⟨fsp_, hSo⟩ := hSp.o
      have hrgp := hSp.rg
      refine pb_cast C hOb (ci := 4) rfl q451 dX2_perimeter_27 ?_
      refine pb_astore_n C dX2_perimeter_30 rfl hl (by decide) rfl fun ls hl => ?_
      have hl : lv_has ls 4 [(3, .ref ((nV V k))), (0, .ref (a)), (1, .int (iZ (t9))), (2, .ref (it))] := hl
      refine pb_iload_n C dX2_perimeter_31 rfl (lv_at hl 2 rfl) ?_
      refine pb_ic C dX2_perimeter_32 ?_
      refine pb_aload_n C dX2_perimeter_33 rfl (lv_at hl 0 rfl) ?_
      refine pb_go_x (bc' := 7 * (L.length - k)) (bs' := 130 * (L.length - k)) (pb_runV (rest := [.int (iZ (2)), .int (iZ (t9))]) C hG (met_X5_height l _ sp _ _ hOb) hOb (ci := 4) rfl (lw_V q1147 q1148 q1149 q71 q1150) ⟨rfl, hdX5_height⟩ rfl hl.1 rfl (Nat.le_of_ble_eq_true rfl) ⟨(Nat.le_of_ble_eq_true rfl), (Nat.le_of_ble_eq_true rfl)⟩ dX2_perimeter_34) (by omega) (by omega) ?_
      refine pb_imul C dX2_perimeter_37 ?_
      refine pb_aload_n C dX2_perimeter_38 rfl (lv_at hl 0 rfl) ?_
      refine pb_getN C in_X5 hOb (ci := 4) rfl 1 (by decide) q468 (fun _ h9 => h9) (v := .ref (sp)) rfl dX2_perimeter_39 ?_
      refine pb_go_x (bc' := 7 * (L.length - k)) (bs' := 130 * (L.length - k)) (pb_runV (rest := [.int (iZ ((2 * ((bd L k).2.1 - (bd L k).1)))), .int (iZ (t9))]) C hG (met_X4_size l sp _ (bE L k) hSp) hSo (ci := 3) rfl (lw_V q427 q428 q429 q70 q430) ⟨rfl, hdX4_size⟩ rfl hl.1 rfl (Nat.le_of_ble_eq_true rfl) ⟨(Nat.le_of_ble_eq_true rfl), (Nat.le_of_ble_eq_true rfl)⟩ dX2_perimeter_42) (by omega) (by omega) ?_
      refine pb_imul C dX2_perimeter_45 ?_
      refine pb_iadd C dX2_perimeter_46 ?_
      refine pb_istore_n C dX2_perimeter_47 rfl hl (by decide) rfl fun ls hl => ?_
      have hl : lv_has ls 4 [(1, .int (iZ ((t9 + ((2 * ((bd L k).2.1 - (bd L k).1)) * ((((bE L k).length / 2) : Nat) : Int)))))), (3, .ref ((nV V k))), (0, .ref (a)), (2, .ref (it))] := hl
      refine pb_iload_n C dX2_perimeter_48 rfl (lv_at hl 0 rfl) ?_
      refine pb_aload_n C dX2_perimeter_49 rfl (lv_at hl 1 rfl) ?_
      refine pb_getN C in_X5 hOb (ci := 4) rfl 1 (by decide) q468 (fun _ h9 => h9) (v := .ref (sp)) rfl dX2_perimeter_50 ?_
      refine pb_aload_n C dX2_perimeter_53 rfl (lv_at hl 2 rfl) ?_
      refine pb_aload_n C dX2_perimeter_54 rfl (lv_at hl 1 rfl) ?_
      refine pb_getN C in_X5 hOb (ci := 4) rfl 0 (by decide) q464 (fun _ h9 => h9) (v := .int (iZ ((bd L k).1))) rfl dX2_perimeter_55 ?_
      refine pb_ic C dX2_perimeter_58 ?_
      refine pb_isub C dX2_perimeter_59 ?_
      obtain ⟨fsR_, hRo⟩ := (hR.kept hFF).o
      refine pb_go_r (bc' := 7 * (L.length - k) - 1) (bs' := 130 * (L.length - k) - 4) (pb_runV (rest := [.ref (sp), .int (iZ ((t9 + ((2 * ((bd L k).2.1 - (bd L k).1)) * ((((bE L k).length / 2) : Nat) : Int)))))]) C hG (met_X2_spansAt l a _ L (hR.kept hFF) (((bd L k).1 - 1)) (by omega)) hRo (ci := 1) rfl (lw_V q687 q688 q689 q55 q690) ⟨rfl, hdX2_spansAt⟩ rfl hl.1 rfl (Nat.le_of_ble_eq_true rfl) ⟨(Nat.le_of_ble_eq_true rfl), (Nat.le_of_ble_eq_true rfl)⟩ dX2_perimeter_60) (by omega) (by omega) (fun s1 H_ hp_ => ?_)
      obtain ⟨hS_s1, hF1⟩ := hp_
      obtain ⟨fs_s1, hSo_s1⟩ := hS_s1.o
      have hG := hG.kept (hF1.mono (fun q _ (hq : q < w.2.2.2) => Nat.lt_of_lt_of_le hq hG.1))
      have hSp := hSp.kall (hF1.mono (fun q h _ => h))
      obtain ⟨fsp_, hSo⟩ := hSp.o
      have hI := hI.kall (hF1.mono (fun q h _ => h))
      have hOb := hOb.kept (hF1.2 _ hOb.lt hOb.lt)
      have hFF := hFF.tr (hF1.mono (fun q _ (hq : q < H0.size) => Nat.lt_of_lt_of_le hq hFF.1))
      refine pb_go_i (bc' := 7 * (L.length - k) - 1 - 5) (bs' := 130 * (L.length - k) - 4 - 122) (pb_runS (rest := [.int (iZ ((t9 + ((2 * ((bd L k).2.1 - (bd L k).1)) * ((((bE L k).length / 2) : Nat) : Int)))))]) C hG (met_X2_differenceOf l sp s1 _ _ (bE L k) (rowL L ((bd L k).1 - 1)) hSp hS_s1 (hE k _ (by omega))) (lw_S q1151 q1152 q55 q1153) hdX2_differenceOf rfl hl.1 rfl (Nat.le_of_ble_eq_true rfl) ⟨(Nat.le_of_ble_eq_true rfl), (Nat.le_of_ble_eq_true rfl)⟩ dX2_perimeter_63) (by omega) (by omega) (fun d_ H_ hp_ => ?_)
      obtain ⟨hd_, hF1⟩ := hp_
      subst hd_
      have hG := hG.kept (hF1.mono (fun q _ (hq : q < w.2.2.2) => Nat.lt_of_lt_of_le hq hG.1))
      have hSp := hSp.kall (hF1.mono (fun q h _ => h))
      obtain ⟨fsp_, hSo⟩ := hSp.o
      have hI := hI.kall (hF1.mono (fun q h _ => h))
      have hOb := hOb.kept (hF1.2 _ hOb.lt hOb.lt)
      have hFF := hFF.tr (hF1.mono (fun q _ (hq : q < H0.size) => Nat.lt_of_lt_of_le hq hFF.1))
      refine pb_iadd C dX2_perimeter_66 ?_
      refine pb_istore_n C dX2_perimeter_67 rfl hl (by decide) rfl fun ls hl => ?_
      have hl : lv_has ls 4 [(1, .int (iZ (((t9 + ((2 * ((bd L k).2.1 - (bd L k).1)) * ((((bE L k).length / 2) : Nat) : Int))) + (difE (bE L k) (rowL L ((bd L k).1 - 1))))))), (3, .ref ((nV V k))), (0, .ref (a)), (2, .ref (it))] := hl
      refine pb_iload_n C dX2_perimeter_68 rfl (lv_at hl 0 rfl) ?_
      refine pb_aload_n C dX2_perimeter_69 rfl (lv_at hl 2 rfl) ?_
      refine pb_aload_n C dX2_perimeter_70 rfl (lv_at hl 1 rfl) ?_
      refine pb_getN C in_X5 hOb (ci := 4) rfl 2 (by decide) q471 (fun _ h9 => h9) (v := .int (iZ ((bd L k).2.1))) rfl dX2_perimeter_71 ?_
      obtain ⟨fsR_, hRo⟩ := (hR.kept hFF).o
      refine pb_go_r (bc' := 7 * (L.length - k) - 1 - 5 - 1) (bs' := 130 * (L.length - k) - 4 - 122 - 4) (pb_runV (rest := [.int (iZ (((t9 + ((2 * ((bd L k).2.1 - (bd L k).1)) * ((((bE L k).length / 2) : Nat) : Int))) + (difE (bE L k) (rowL L ((bd L k).1 - 1))))))]) C hG (met_X2_spansAt l a _ L (hR.kept hFF) ((bd L k).2.1) (by omega)) hRo (ci := 1) rfl (lw_V q687 q688 q689 q55 q690) ⟨rfl, hdX2_spansAt⟩ rfl hl.1 rfl (Nat.le_of_ble_eq_true rfl) ⟨(Nat.le_of_ble_eq_true rfl), (Nat.le_of_ble_eq_true rfl)⟩ dX2_perimeter_74) (by omega) (by omega) (fun s2 H_ hp_ => ?_)
      obtain ⟨hS_s2, hF1⟩ := hp_
      obtain ⟨fs_s2, hSo_s2⟩ := hS_s2.o
      have hG := hG.kept (hF1.mono (fun q _ (hq : q < w.2.2.2) => Nat.lt_of_lt_of_le hq hG.1))
      have hSp := hSp.kall (hF1.mono (fun q h _ => h))
      obtain ⟨fsp_, hSo⟩ := hSp.o
      have hI := hI.kall (hF1.mono (fun q h _ => h))
      have hOb := hOb.kept (hF1.2 _ hOb.lt hOb.lt)
      have hFF := hFF.tr (hF1.mono (fun q _ (hq : q < H0.size) => Nat.lt_of_lt_of_le hq hFF.1))
      refine pb_go_x (bc' := 7 * (L.length - k) - 1 - 5 - 1) (bs' := 130 * (L.length - k) - 4 - 122 - 4) (pb_runV (rest := [.int (iZ (((t9 + ((2 * ((bd L k).2.1 - (bd L k).1)) * ((((bE L k).length / 2) : Nat) : Int))) + (difE (bE L k) (rowL L ((bd L k).1 - 1))))))]) C hG (met_X4_size l s2 _ (rowL L (bd L k).2.1) hS_s2) hSo_s2 (ci := 3) rfl (lw_V q427 q428 q429 q70 q430) ⟨rfl, hdX4_size⟩ rfl hl.1 rfl (Nat.le_of_ble_eq_true rfl) ⟨(Nat.le_of_ble_eq_true rfl), (Nat.le_of_ble_eq_true rfl)⟩ dX2_perimeter_77) (by omega) (by omega) ?_
      have hrs2 := hS_s2.rg
      refine pb_if_ne C dX2_perimeter_80 (x := ((((rowL L (bd L k).2.1).length / 2) : Nat) : Int)) (tgt := 93) (by decide) (by omega) (fun c80_ => ?_) (fun c80_ => ?_)
      · refine pb_ic C dX2_perimeter_93 ?_
        refine pb_iadd C dX2_perimeter_94 ?_
        refine pb_istore_n C dX2_perimeter_95 rfl hl (by decide) rfl fun ls hl => ?_
        have hl : lv_has ls 4 [(1, .int (iZ ((((t9 + ((2 * ((bd L k).2.1 - (bd L k).1)) * ((((bE L k).length / 2) : Nat) : Int))) + (difE (bE L k) (rowL L ((bd L k).1 - 1)))) + 0)))), (3, .ref ((nV V k))), (0, .ref (a)), (2, .ref (it))] := hl
        refine pb_goto C dX2_perimeter_96 (tgt := 12) (by decide) ?_
        exact pb_V.mono (by omega) (by omega) (ih12 _ (by omega) (k + 1) it (((t9 + ((2 * ((bd L k).2.1 - (bd L k).1)) * ((((bE L k).length / 2) : Nat) : Int))) + (difE (bE L k) (rowL L ((bd L k).1 - 1)))) + 0) H_ rfl hG (by omega) (by omega) hI hFF (by rw [perF, ← ht, if_neg (by omega)]) ls (lv_sub hl [2, 0, 3] rfl))
      · refine pb_aload_n C dX2_perimeter_83 rfl (lv_at hl 1 rfl) ?_
        refine pb_getN C in_X5 hOb (ci := 4) rfl 1 (by decide) q468 (fun _ h9 => h9) (v := .ref (sp)) rfl dX2_perimeter_84 ?_
        refine pb_go_x (bc' := 7 * (L.length - k) - 1 - 5 - 1) (bs' := 130 * (L.length - k) - 4 - 122 - 4) (pb_runV (rest := [.int (iZ (((t9 + ((2 * ((bd L k).2.1 - (bd L k).1)) * ((((bE L k).length / 2) : Nat) : Int))) + (difE (bE L k) (rowL L ((bd L k).1 - 1))))))]) C hG (met_X4_length l sp _ (bE L k) hSp) hSo (ci := 3) rfl (lw_V q1156 q1157 q1158 q70 q1159) ⟨rfl, hdX4_length⟩ rfl hl.1 rfl (Nat.le_of_ble_eq_true rfl) ⟨(Nat.le_of_ble_eq_true rfl), (Nat.le_of_ble_eq_true rfl)⟩ dX2_perimeter_87) (by omega) (by omega) ?_
        refine pb_goto C dX2_perimeter_90 (tgt := 94) (by decide) ?_
        refine pb_iadd C dX2_perimeter_94 ?_
        refine pb_istore_n C dX2_perimeter_95 rfl hl (by decide) rfl fun ls hl => ?_
        have hl : lv_has ls 4 [(1, .int (iZ ((((t9 + ((2 * ((bd L k).2.1 - (bd L k).1)) * ((((bE L k).length / 2) : Nat) : Int))) + (difE (bE L k) (rowL L ((bd L k).1 - 1)))) + (lenE (bE L k) ((bE L k).length / 2)))))), (3, .ref ((nV V k))), (0, .ref (a)), (2, .ref (it))] := hl
        refine pb_goto C dX2_perimeter_96 (tgt := 12) (by decide) ?_
        exact pb_V.mono (by omega) (by omega) (ih12 _ (by omega) (k + 1) it (((t9 + ((2 * ((bd L k).2.1 - (bd L k).1)) * ((((bE L k).length / 2) : Nat) : Int))) + (difE (bE L k) (rowL L ((bd L k).1 - 1)))) + (lenE (bE L k) ((bE L k).length / 2))) H_ rfl hG (by omega) (by omega) hI hFF (by rw [perF, ← ht, if_pos (by omega)]) ls (lv_sub hl [2, 0, 3] rfl))
  refine pb_ic C dX2_perimeter_0 ?_
  refine pb_istore_n C dX2_perimeter_1 rfl hl (by decide) rfl fun ls hl => ?_
  have hl : lv_has ls 4 [(1, .int (iZ (0))), (0, .ref (a))] := hl
  refine pb_aload_n C dX2_perimeter_2 rfl (lv_at hl 1 rfl) ?_
  refine pb_get C in_X2 hO (ci := 1) rfl 0 (by decide) q139 (fun _ h9 => h9) (v := .ref (t)) rfl dX2_perimeter_3 ?_
  obtain ⟨fsL9_, hLo9⟩ := (hLr.kept hFF).o
  refine pb_go_r (bc' := 1 + 7 * L.length - 1) (bs' := 4 + 130 * L.length - 4) (pb_runF (n := 0) (rest := []) C hG (x := ⟨"java/util/List", "iterator", "()Ljava/util/Iterator;"⟩) (met_J2_iterator l t _ V (hLr.kept hFF)) hLo9 (ci := 15) rfl (by decide) q681 q523 q525 q54 q527 (by decide +kernel) rfl hl.1 rfl (Nat.le_of_ble_eq_true rfl) ⟨(Nat.le_of_ble_eq_true rfl), (Nat.le_of_ble_eq_true rfl)⟩ dX2_perimeter_6) (by omega) (by omega) (fun it H_ hp_ => ?_)
  obtain ⟨hit, hI, hF1⟩ := hp_
  have hz4 := hFF.1
  have hG := hG.kept (hF1.mono (fun _ _ _ => trivial))
  have hFF := hFF.tr (hF1.mono (fun _ _ _ => trivial))
  refine pb_astore_n C dX2_perimeter_11 rfl hl (by decide) rfl fun ls hl => ?_
  have hl : lv_has ls 4 [(2, .ref (it)), (1, .int (iZ (0))), (0, .ref (a))] := hl
  exact pb_V.mono (by omega) (by omega) (L12 _ 0 it 0 H_ rfl hG (by omega) (by omega) hI hFF rfl ls (lv_sub hl [2, 1, 0] rfl))

