set_option maxRecDepth 100000
set_option maxHeartbeats 1000000 in
theorem met_X2_isEmpty {w : pb_W} (l : Launch) {H : Heap} (a : Nat) (P : Nat → Prop) (L : List Bnd) (hR : Rg w H P a L) : pb_M w l yX2_isEmpty cX2_isEmpty 1 (some .boolean) 1 (0) (0) [.ref (a)] H (pb_qx (.int (iZ (bI (decide (L.length = 0))))) H) := by
  refine pb_of (by decide +kernel) (Nat.le_of_ble_eq_true rfl) ?_
  intro p_ e_ s_ m_ ar_ bl_ me_ co_ ls C hh hG hl
  have hl : lv_has ls 1 [(0, .ref (a))] := hl
  have hR := hR.below
  obtain ⟨t, V, hPa, hO, hLr, hVn, hBd⟩ := id hR
  obtain ⟨fsL_, hLo⟩ := hLr.o
  have hn9 := hLr.n
  have hrb := hR.rb
  refine pb_aload_n C dX2_isEmpty_0 rfl (lv_at hl 0 rfl) ?_
  refine pb_get C in_X2 hO (ci := 1) rfl 0 (by decide) q139 (fun _ h9 => h9) (v := .ref (t)) rfl dX2_isEmpty_1 ?_
  refine pb_go_x (bc' := 0) (bs' := 0) (pb_runF (n := 0) (rest := []) C hG (x := ⟨"java/util/List", "isEmpty", "()Z"⟩) (met_J2_isEmpty l t _ V hLr) hLo (ci := 15) rfl (by decide) q432 q435 q437 q54 q439 (by decide +kernel) rfl hl.1 rfl (Nat.le_of_ble_eq_true rfl) ⟨(Nat.le_of_ble_eq_true rfl), (Nat.le_of_ble_eq_true rfl)⟩ dX2_isEmpty_4) (by omega) (by omega) ?_
  exact pb_zret C dX2_isEmpty_9 (pb_nar (decide (V.length = 0))) (⟨by rw [hVn], rfl⟩)

set_option maxHeartbeats 1000000 in
theorem met_X2_lowest {w : pb_W} (l : Launch) {H : Heap} (a : Nat) (P : Nat → Prop) (L : List Bnd) (hR : Rg w H P a L) : pb_M w l yX2_lowest cX2_lowest 1 (some .int) 3 (0) (0) [.ref (a)] H (pb_qx (.int (iZ (lowF L))) H) := by
  refine pb_of (by decide +kernel) (Nat.le_of_ble_eq_true rfl) ?_
  intro p_ e_ s_ m_ ar_ bl_ me_ co_ ls C hh hG hl
  have hl : lv_has ls 1 [(0, .ref (a))] := hl
  have hR := hR.below
  obtain ⟨t, V, hPa, hO, hLr, hVn, hBd⟩ := id hR
  obtain ⟨fsL_, hLo⟩ := hLr.o
  have hn9 := hLr.n
  have hrb := hR.rb
  refine pb_aload_n C dX2_lowest_0 rfl (lv_at hl 0 rfl) ?_
  refine pb_get C in_X2 hO (ci := 1) rfl 0 (by decide) q139 (fun _ h9 => h9) (v := .ref (t)) rfl dX2_lowest_1 ?_
  refine pb_go_x (bc' := 0) (bs' := 0) (pb_runF (n := 0) (rest := []) C hG (x := ⟨"java/util/List", "isEmpty", "()Z"⟩) (met_J2_isEmpty l t _ V hLr) hLo (ci := 15) rfl (by decide) q432 q435 q437 q54 q439 (by decide +kernel) rfl hl.1 rfl (Nat.le_of_ble_eq_true rfl) ⟨(Nat.le_of_ble_eq_true rfl), (Nat.le_of_ble_eq_true rfl)⟩ dX2_lowest_4) (by omega) (by omega) ?_
  refine pb_ifB_eq C dX2_lowest_9 (tgt := 16) (by decide) (fun c9_ => ?_) (fun c9_ => ?_)
  · have c9_ := of_decide_eq_false c9_
    refine pb_aload_n C dX2_lowest_16 rfl (lv_at hl 0 rfl) ?_
    refine pb_get C in_X2 hO (ci := 1) rfl 0 (by decide) q139 (fun _ h9 => h9) (v := .ref (t)) rfl dX2_lowest_17 ?_
    refine pb_ic C dX2_lowest_20 ?_
    refine pb_go_x (bc' := 0) (bs' := 0) (pb_runF (n := 1) (rest := []) C hG (x := ⟨"java/util/List", "get", "(I)Ljava/lang/Object;"⟩) (met_J2_get l t _ V hLr 0 (by omega)) hLo (ci := 15) rfl (by decide) q450 q360 q362 q54 q364 (by decide +kernel) rfl hl.1 rfl (Nat.le_of_ble_eq_true rfl) ⟨(Nat.le_of_ble_eq_true rfl), (Nat.le_of_ble_eq_true rfl)⟩ dX2_lowest_21) (by omega) (by omega) ?_
    obtain ⟨hPb, sp, hOb, hSp, hb1, hb2⟩ := hBd 0 (by omega)
    refine pb_cast C hOb (ci := 4) rfl q451 dX2_lowest_26 ?_
    refine pb_getN C in_X5 hOb (ci := 4) rfl 0 (by decide) q464 (fun _ h9 => h9) (v := .int (iZ ((bd L 0).1))) rfl dX2_lowest_29 ?_
    exact pb_iret C dX2_lowest_32 (⟨by rw [lowF, if_neg (by omega)], rfl⟩)
  · have c9_ := of_decide_eq_true c9_
    refine pb_ic C dX2_lowest_12 ?_
    refine pb_goto C dX2_lowest_13 (tgt := 32) (by decide) ?_
    exact pb_iret C dX2_lowest_32 (⟨by rw [lowF, if_pos (by omega)], rfl⟩)

set_option maxHeartbeats 1000000 in
theorem met_X2_bottom {w : pb_W} (l : Launch) {H : Heap} (a : Nat) (P : Nat → Prop) (L : List Bnd) (hR : Rg w H P a L) (h0 : 0 < L.length) : pb_M w l yX2_bottom cX2_bottom 1 (some .int) 3 (0) (0) [.ref (a)] H (pb_qx (.int (iZ (bd L 0).1)) H) := by
  refine pb_of (by decide +kernel) (Nat.le_of_ble_eq_true rfl) ?_
  intro p_ e_ s_ m_ ar_ bl_ me_ co_ ls C hh hG hl
  have hl : lv_has ls 1 [(0, .ref (a))] := hl
  have hR := hR.below
  obtain ⟨t, V, hPa, hO, hLr, hVn, hBd⟩ := id hR
  obtain ⟨fsL_, hLo⟩ := hLr.o
  have hn9 := hLr.n
  have hrb := hR.rb
  refine pb_aload_n C dX2_bottom_0 rfl (lv_at hl 0 rfl) ?_
  refine pb_get C in_X2 hO (ci := 1) rfl 0 (by decide) q139 (fun _ h9 => h9) (v := .ref (t)) rfl dX2_bottom_1 ?_
  refine pb_ic C dX2_bottom_4 ?_
  refine pb_go_x (bc' := 0) (bs' := 0) (pb_runF (n := 1) (rest := []) C hG (x := ⟨"java/util/List", "get", "(I)Ljava/lang/Object;"⟩) (met_J2_get l t _ V hLr 0 (by omega)) hLo (ci := 15) rfl (by decide) q450 q360 q362 q54 q364 (by decide +kernel) rfl hl.1 rfl (Nat.le_of_ble_eq_true rfl) ⟨(Nat.le_of_ble_eq_true rfl), (Nat.le_of_ble_eq_true rfl)⟩ dX2_bottom_5) (by omega) (by omega) ?_
  obtain ⟨hPb, sp, hOb, hSp, hb1, hb2⟩ := hBd 0 (by omega)
  refine pb_cast C hOb (ci := 4) rfl q451 dX2_bottom_10 ?_
  refine pb_getN C in_X5 hOb (ci := 4) rfl 0 (by decide) q464 (fun _ h9 => h9) (v := .int (iZ ((bd L 0).1))) rfl dX2_bottom_13 ?_
  exact pb_iret C dX2_bottom_16 (⟨rfl, rfl⟩)

set_option maxHeartbeats 1000000 in
theorem met_X2_top {w : pb_W} (l : Launch) {H : Heap} (a : Nat) (P : Nat → Prop) (L : List Bnd) (hR : Rg w H P a L) (h0 : 0 < L.length) : pb_M w l yX2_top cX2_top 1 (some .int) 3 (0) (0) [.ref (a)] H (pb_qx (.int (iZ (bd L (L.length - 1)).2.1)) H) := by
  refine pb_of (by decide +kernel) (Nat.le_of_ble_eq_true rfl) ?_
  intro p_ e_ s_ m_ ar_ bl_ me_ co_ ls C hh hG hl
  have hl : lv_has ls 1 [(0, .ref (a))] := hl
  have hR := hR.below
  obtain ⟨t, V, hPa, hO, hLr, hVn, hBd⟩ := id hR
  obtain ⟨fsL_, hLo⟩ := hLr.o
  have hn9 := hLr.n
  have hrb := hR.rb
  refine pb_aload_n C dX2_top_0 rfl (lv_at hl 0 rfl) ?_
  refine pb_get C in_X2 hO (ci := 1) rfl 0 (by decide) q139 (fun _ h9 => h9) (v := .ref (t)) rfl dX2_top_1 ?_
  refine pb_aload_n C dX2_top_4 rfl (lv_at hl 0 rfl) ?_
  refine pb_get C in_X2 hO (ci := 1) rfl 0 (by decide) q139 (fun _ h9 => h9) (v := .ref (t)) rfl dX2_top_5 ?_
  refine pb_go_x (bc' := 0) (bs' := 0) (pb_runF (n := 0) (rest := [.ref (t)]) C hG (x := ⟨"java/util/List", "size", "()I"⟩) (met_J2_size l t _ V hLr) hLo (ci := 15) rfl (by decide) q441 q444 q446 q54 q448 (by decide +kernel) rfl hl.1 rfl (Nat.le_of_ble_eq_true rfl) ⟨(Nat.le_of_ble_eq_true rfl), (Nat.le_of_ble_eq_true rfl)⟩ dX2_top_8) (by omega) (by omega) ?_
  refine pb_ic C dX2_top_13 ?_
  refine pb_isub C dX2_top_14 ?_
  refine pb_eq (g2 := F0 m_ 15 ls [.int (iZ ((((V.length - 1) : Nat) : Int))), .ref (t)]) (congrArg (fun z9 => F0 m_ 15 ls [.int (iZ z9), .ref (t)]) (show (((V.length : Nat) : Int) - 1) = (((V.length - 1) : Nat) : Int) from (by omega))) ?_
  refine pb_go_x (bc' := 0) (bs' := 0) (pb_runF (n := 1) (rest := []) C hG (x := ⟨"java/util/List", "get", "(I)Ljava/lang/Object;"⟩) (met_J2_get l t _ V hLr (V.length - 1) (by omega)) hLo (ci := 15) rfl (by decide) q450 q360 q362 q54 q364 (by decide +kernel) rfl hl.1 rfl (Nat.le_of_ble_eq_true rfl) ⟨(Nat.le_of_ble_eq_true rfl), (Nat.le_of_ble_eq_true rfl)⟩ dX2_top_15) (by omega) (by omega) ?_
  obtain ⟨hPb, sp, hOb, hSp, hb1, hb2⟩ := hBd (V.length - 1) (by omega)
  refine pb_cast C hOb (ci := 4) rfl q451 dX2_top_20 ?_
  refine pb_getN C in_X5 hOb (ci := 4) rfl 2 (by decide) q471 (fun _ h9 => h9) (v := .int (iZ ((bd L (V.length - 1)).2.1))) rfl dX2_top_23 ?_
  exact pb_iret C dX2_top_26 (⟨by rw [hVn], rfl⟩)

set_option maxHeartbeats 1000000 in
theorem met_X2_spansAt {w : pb_W} (l : Launch) {H0 : Heap} (a : Nat) (P : Nat → Prop) (L : List Bnd) (hR : Rg w H0 P a L) (y : Int) (hy : -2000 ≤ y ∧ y ≤ 2000) : pb_M w l yX2_spansAt cX2_spansAt 4 (some (.object "PolygonBoard$Spans")) 3 (1) (4) [.ref (a), .int (iZ (y))] H0 (pb_qr (fun s H1 => Sp w H1 (fun q => P q ∨ q < w.2.2.2) s (rowL L y) ∧ pb_F (fun q => q < H0.size) H0 H1)) := by
  refine pb_of (by decide +kernel) (Nat.le_of_ble_eq_true rfl) ?_
  intro p_ e_ s_ m_ ar_ bl_ me_ co_ ls C hh hG hl
  have hl : lv_has ls 4 [(0, .ref (a)), (1, .int (iZ (y)))] := hl
  have hzs := hG.1
  have hFF : pb_F (fun q => q < H0.size) H0 H0 := pb_F.rf
  have hrb := hR.rb
  obtain ⟨t, V, hPaP, hO, hLrP, hVn, hBdP⟩ := id hR
  have hPa : a < H0.size := hO.lt
  have hLr := hLrP.below
  obtain ⟨fsL_, hLo⟩ := hLr.o
  have hn9 := hLr.n
  have L10 : ∀ (n_ : Nat) (k it : Nat) (H : Heap), V.length - k = n_ → (pb_G w s_ H) → (k ≤ V.length) → (H0.size ≤ it) → (It w H it t k V.length) → (pb_F (fun q => q < H0.size) H0 H) → (rowN L y k) → ∀ (ls : Array Slot), lv_has ls 4 [(1, .int (iZ (y))), (2, .ref (it))] → pb_V w.2.2.2 p_ l e_ (pb_rm 3 (1) (4)) s_ m_ ar_ bl_ me_ co_ H (0) (0) (pb_E w bl_ ar_ s_ (1) (4) (pb_qr (fun s H1 => Sp w H1 (fun q => P q ∨ q < w.2.2.2) s (rowL L y) ∧ pb_F (fun q => q < H0.size) H0 H1))) (F0 m_ 10 ls []) := by
    intro n_
    induction n_ using Nat.strongRecOn with
    | _ n_ ih10 =>
    intro k it H hm_ hG hk hit hI hFF hrow ls hl
    obtain ⟨fsI_, hIo⟩ := hI.o
    refine pb_aload_n C dX2_spansAt_10 rfl (lv_at hl 1 rfl) ?_
    refine pb_go_x (bc' := 0) (bs' := 0) (pb_runF (n := 0) (rest := []) C hG (x := ⟨"java/util/Iterator", "hasNext", "()Z"⟩) (met_J15_hasNext l it t k _ V hI (hLr.kept hFF) (by omega)) hIo (ci := 16) rfl (by decide) q683 q552 q554 q76 q556 (by decide +kernel) rfl hl.1 rfl (Nat.le_of_ble_eq_true rfl) ⟨(Nat.le_of_ble_eq_true rfl), (Nat.le_of_ble_eq_true rfl)⟩ dX2_spansAt_11) (by omega) (by omega) ?_
    refine pb_ifB_eq C dX2_spansAt_16 (tgt := 54) (by decide) (fun c16_ => ?_) (fun c16_ => ?_)
    · have c16_ := of_decide_eq_false c16_
      refine pb_gets C (n := "NO_SPANS") (v := .ref (w.2.2.1 1)) hG.2.2.2.2.1 q692 (fun _ h9 => h9) dX2_spansAt_54 ?_
      exact pb_aret C (Or.inl ⟨_, rfl⟩) dX2_spansAt_57 (Or.inr ⟨_, rfl⟩) (⟨_, rfl, by rw [rowL_none (fun j hj => hrow j (by omega))]; exact (no_sp hG).mono (fun q _ h => Or.inr h), hFF⟩)
    · have c16_ := of_decide_eq_true c16_
      refine pb_aload_n C dX2_spansAt_19 rfl (lv_at hl 1 rfl) ?_
      refine pb_go_r (bc' := 0) (bs' := 0) (pb_runF (n := 0) (rest := []) C hG (x := ⟨"java/util/Iterator", "next", "()Ljava/lang/Object;"⟩) (met_J15_next l it t k _ V hI (hLr.kept hFF) (by omega) (fun h9 => absurd (show it < H0.size from h9) (by omega)) (by omega)) hIo (ci := 16) rfl (by decide) q685 q561 q563 q76 q565 (by decide +kernel) rfl hl.1 rfl (Nat.le_of_ble_eq_true rfl) ⟨(Nat.le_of_ble_eq_true rfl), (Nat.le_of_ble_eq_true rfl)⟩ dX2_spansAt_20) (by omega) (by omega) (fun b_ H_ hp_ => ?_)
      obtain ⟨rfl, hI, hF1⟩ := hp_
      have hG := hG.kept (hF1.mono (fun q _ (hq : q < w.2.2.2) => show q ≠ _ from by omega))
      have hFF := hFF.tr (hF1.mono (fun q _ (hq : q < H0.size) => show q ≠ _ from by omega))
      obtain ⟨hPb, sp, hOb, hSp, hb1, hb2⟩ := (hBdP k (by omega)).kept (hFF.mono (fun q h _ => h))
      obtain ⟨fsp_, hSo⟩ := hSp.o
      have hrgp := hSp.rg
      refine pb_cast C hOb (ci := 4) rfl q451 dX2_spansAt_25 ?_
      refine pb_astore_n C dX2_spansAt_28 rfl hl (by decide) rfl fun ls hl => ?_
      have hl : lv_has ls 4 [(3, .ref ((nV V k))), (1, .int (iZ (y))), (2, .ref (it))] := hl
      refine pb_iload_n C dX2_spansAt_29 rfl (lv_at hl 1 rfl) ?_
      refine pb_aload_n C dX2_spansAt_30 rfl (lv_at hl 0 rfl) ?_
      refine pb_getN C in_X5 hOb (ci := 4) rfl 0 (by decide) q464 (fun _ h9 => h9) (v := .int (iZ ((bd L k).1))) rfl dX2_spansAt_31 ?_
      refine pb_aload_n C dX2_spansAt_34 rfl (lv_at hl 0 rfl) ?_
      refine pb_getN C in_X5 hOb (ci := 4) rfl 2 (by decide) q471 (fun _ h9 => h9) (v := .int (iZ ((bd L k).2.1))) rfl dX2_spansAt_35 ?_
      refine pb_ic C dX2_spansAt_38 ?_
      refine pb_isub C dX2_spansAt_39 ?_
      refine pb_go_x (bc' := 0) (bs' := 0) (pb_runSN (rest := []) C hG (met_X1_isBetween l y ((bd L k).1) (((bd L k).2.1 - 1)) (by omega) (by omega) (by omega)) q691 q333 q51 q334 hdX1_isBetween rfl hl.1 rfl (Nat.le_of_ble_eq_true rfl) ⟨(Nat.le_of_ble_eq_true rfl), (Nat.le_of_ble_eq_true rfl)⟩ dX2_spansAt_40) (by omega) (by omega) ?_
      refine pb_ifB_eq C dX2_spansAt_43 (tgt := 51) (by decide) (fun c43_ => ?_) (fun c43_ => ?_)
      · have c43_ := of_decide_eq_false c43_
        refine pb_goto C dX2_spansAt_51 (tgt := 10) (by decide) ?_
        exact pb_V.mono (by omega) (by omega) (ih10 _ (by omega) (k + 1) it H_ rfl hG (by omega) (by omega) hI hFF (fun j hj => if h9 : j = k then by subst h9; exact c43_ else hrow j (by omega)) ls (lv_sub hl [1, 2] rfl))
      · have c43_ := of_decide_eq_true c43_
        refine pb_aload_n C dX2_spansAt_46 rfl (lv_at hl 0 rfl) ?_
        refine pb_getN C in_X5 hOb (ci := 4) rfl 1 (by decide) q468 (fun _ h9 => h9) (v := .ref (sp)) rfl dX2_spansAt_47 ?_
        exact pb_aret C (Or.inl ⟨_, rfl⟩) dX2_spansAt_50 (Or.inr ⟨_, rfl⟩) (⟨_, rfl, by rw [rowL_hit (by omega) hrow c43_]; exact hSp.mono (fun q _ h => Or.inl h), hFF⟩)
  refine pb_aload_n C dX2_spansAt_0 rfl (lv_at hl 0 rfl) ?_
  refine pb_get C in_X2 hO (ci := 1) rfl 0 (by decide) q139 (fun _ h9 => h9) (v := .ref (t)) rfl dX2_spansAt_1 ?_
  obtain ⟨fsL9_, hLo9⟩ := (hLr.kept hFF).o
  refine pb_go_r (bc' := 0) (bs' := 0) (pb_runF (n := 0) (rest := []) C hG (x := ⟨"java/util/List", "iterator", "()Ljava/util/Iterator;"⟩) (met_J2_iterator l t _ V (hLr.kept hFF)) hLo9 (ci := 15) rfl (by decide) q681 q523 q525 q54 q527 (by decide +kernel) rfl hl.1 rfl (Nat.le_of_ble_eq_true rfl) ⟨(Nat.le_of_ble_eq_true rfl), (Nat.le_of_ble_eq_true rfl)⟩ dX2_spansAt_4) (by omega) (by omega) (fun it H_ hp_ => ?_)
  obtain ⟨hit, hI, hF1⟩ := hp_
  have hz4 := hFF.1
  have hG := hG.kept (hF1.mono (fun _ _ _ => trivial))
  have hFF := hFF.tr (hF1.mono (fun _ _ _ => trivial))
  refine pb_astore_n C dX2_spansAt_9 rfl hl (by decide) rfl fun ls hl => ?_
  have hl : lv_has ls 4 [(2, .ref (it)), (0, .ref (a)), (1, .int (iZ (y)))] := hl
  exact pb_V.mono (by omega) (by omega) (L10 _ 0 it H_ rfl hG (by omega) (by omega) hI hFF (fun j hj => absurd hj (Nat.not_lt_zero _)) ls (lv_sub hl [2, 0] rfl))

set_option maxHeartbeats 1000000 in
theorem met_X2_contains {w : pb_W} (l : Launch) {H0 : Heap} (a : Nat) (P : Nat → Prop) (L : List Bnd) (hR : Rg w H0 P a L) (x y : Int) (hx : -2000 ≤ x ∧ x ≤ 2000) (hy : -2000 ≤ y ∧ y ≤ 2000) : pb_M w l yX2_contains cX2_contains 3 (some .boolean) 4 (1) (4) [.ref (a), .int (iZ (x)), .int (iZ (y))] H0 (pb_qi (fun z H1 => z = bI (inE (rowL L y) x ((rowL L y).length / 2)) ∧ pb_F (fun q => q < H0.size) H0 H1)) := by
  refine pb_of (by decide +kernel) (Nat.le_of_ble_eq_true rfl) ?_
  intro p_ e_ s_ m_ ar_ bl_ me_ co_ ls C hh hG hl
  have hl : lv_has ls 3 [(0, .ref (a)), (1, .int (iZ (x))), (2, .int (iZ (y)))] := hl
  have hzs := hG.1
  have hFF : pb_F (fun q => q < H0.size) H0 H0 := pb_F.rf
  obtain ⟨fsR_, hRo⟩ := hR.o
  refine pb_aload_n C dX2_contains_0 rfl (lv_at hl 0 rfl) ?_
  refine pb_iload_n C dX2_contains_1 rfl (lv_at hl 2 rfl) ?_
  refine pb_go_r (bc' := 0) (bs' := 0) (pb_runV (rest := []) C hG (met_X2_spansAt l a _ L hR y (by omega)) hRo (ci := 1) rfl (lw_V q687 q688 q689 q55 q690) ⟨rfl, hdX2_spansAt⟩ rfl hl.1 rfl (Nat.le_of_ble_eq_true rfl) ⟨(Nat.le_of_ble_eq_true rfl), (Nat.le_of_ble_eq_true rfl)⟩ dX2_contains_2) (by omega) (by omega) (fun s H_ hp_ => ?_)
  obtain ⟨hS_s, hF1⟩ := hp_
  obtain ⟨fs_s, hSo_s⟩ := hS_s.o
  have hG := hG.kept (hF1.mono (fun q _ (hq : q < w.2.2.2) => Nat.lt_of_lt_of_le hq hG.1))
  have hFF := hFF.tr (hF1.mono (fun q _ (hq : q < H0.size) => Nat.lt_of_lt_of_le hq hFF.1))
  refine pb_iload_n C dX2_contains_5 rfl (lv_at hl 1 rfl) ?_
  refine pb_go_x (bc' := 0) (bs' := 0) (pb_runV (rest := []) C hG (met_X4_contains l s _ (rowL L y) hS_s x (by omega)) hSo_s (ci := 3) rfl (lw_V q944 q945 q946 q70 q947) ⟨rfl, hdX4_contains⟩ rfl hl.1 rfl (Nat.le_of_ble_eq_true rfl) ⟨(Nat.le_of_ble_eq_true rfl), (Nat.le_of_ble_eq_true rfl)⟩ dX2_contains_6) (by omega) (by omega) ?_
  exact pb_zret C dX2_contains_9 (pb_nar ((inE (rowL L y) x ((rowL L y).length / 2)))) (⟨_, rfl, rfl, hFF⟩)

set_option maxHeartbeats 1000000 in
theorem met_X2_nextHeight_2 {w : pb_W} (l : Launch) {H0 : Heap} (a : Nat) (P : Nat → Prop) (L : List Bnd) (hR : Rg w H0 P a L) (y : Int) (hy : -1000 ≤ y ∧ y ≤ 1000) : pb_M w l yX2_nextHeight_2 cX2_nextHeight_2 5 (some .int) 3 (1) (4) [.ref (a), .int (iZ (y))] H0 (pb_qi (fun z H1 => z = nhF L y L.length ∧ pb_F (fun q => q < H0.size) H0 H1)) := by
  refine pb_of (by decide +kernel) (Nat.le_of_ble_eq_true rfl) ?_
  intro p_ e_ s_ m_ ar_ bl_ me_ co_ ls C hh hG hl
  have hl : lv_has ls 5 [(0, .ref (a)), (1, .int (iZ (y)))] := hl
  have hzs := hG.1
  have hFF : pb_F (fun q => q < H0.size) H0 H0 := pb_F.rf
  have hR := hR.below
  obtain ⟨t, V, hPa, hO, hLr, hVn, hBd⟩ := id hR
  obtain ⟨fsL_, hLo⟩ := hLr.o
  have hn9 := hLr.n
  have hrb := hR.rb
  have L12 : ∀ (n_ : Nat) (k it : Nat) (nx : Int) (H : Heap), V.length - k = n_ → (pb_G w s_ H) → (k ≤ V.length) → (H0.size ≤ it) → (It w H it t k V.length) → (pb_F (fun q => q < H0.size) H0 H) → (nx = nhF L y k) → ∀ (ls : Array Slot), lv_has ls 5 [(1, .int (iZ (y))), (2, .int (iZ (nx))), (3, .ref (it))] → pb_V w.2.2.2 p_ l e_ (pb_rm 3 (1) (4)) s_ m_ ar_ bl_ me_ co_ H (0) (0) (pb_E w bl_ ar_ s_ (1) (4) (pb_qi (fun z H1 => z = nhF L y L.length ∧ pb_F (fun q => q < H0.size) H0 H1))) (F0 m_ 12 ls []) := by
    intro n_
    induction n_ using Nat.strongRecOn with
    | _ n_ ih12 =>
    intro k it nx H hm_ hG hk hit hI hFF hnx ls hl
    obtain ⟨fsI_, hIo⟩ := hI.o
    have hnr := nhF_rg hrb hy k
    have L64 : ∀ (v1 : Int) (H : Heap), (pb_G w s_ H) → (v1 = nhS y nx (bd L k).1) → (It w H it t (k + 1) V.length) → (pb_F (fun q => q < H0.size) H0 H) → (k < V.length) →  ∀ (ls : Array Slot), lv_has ls 5 [(1, .int (iZ (y))), (2, .int (iZ (nx))), (3, .ref (it)), (4, .ref ((nV V k)))] → pb_V w.2.2.2 p_ l e_ (pb_rm 3 (1) (4)) s_ m_ ar_ bl_ me_ co_ H (0) (0) (pb_E w bl_ ar_ s_ (1) (4) (pb_qi (fun z H1 => z = nhF L y L.length ∧ pb_F (fun q => q < H0.size) H0 H1))) (F0 m_ 64 ls [.int (iZ (v1))]) := by
      intro v1 H hG hv1 hI hFF hk1 ls hl
      obtain ⟨hPb, sp, hOb, hSp, hb1, hb2⟩ := (hBd k (by omega)).kept hFF
      have hv1r : -1000 ≤ v1 ∧ v1 ≤ 1000 := by rw [hv1]; exact nhS_rg (by omega) (hrb k).1
      have L97 : ∀ (v2 : Int), (v2 = nhS y v1 (bd L k).2.1) →  ∀ (ls : Array Slot), lv_has ls 5 [(1, .int (iZ (y))), (2, .int (iZ (v1))), (3, .ref (it)), (4, .ref ((nV V k)))] → pb_V w.2.2.2 p_ l e_ (pb_rm 3 (1) (4)) s_ m_ ar_ bl_ me_ co_ H (0) (0) (pb_E w bl_ ar_ s_ (1) (4) (pb_qi (fun z H1 => z = nhF L y L.length ∧ pb_F (fun q => q < H0.size) H0 H1))) (F0 m_ 97 ls [.int (iZ (v2))]) := by
        intro v2 hv2 ls hl
        refine pb_istore_n C dX2_nextHeight_2_97 rfl hl (by decide) rfl fun ls hl => ?_
        have hl : lv_has ls 5 [(2, .int (iZ (v2))), (1, .int (iZ (y))), (3, .ref (it)), (4, .ref ((nV V k)))] := hl
        refine pb_goto C dX2_nextHeight_2_98 (tgt := 12) (by decide) ?_
        exact pb_V.mono (by omega) (by omega) (ih12 _ (by omega) (k + 1) it v2 H rfl hG (by omega) (by omega) hI hFF (by rw [nhF, ← hnx, ← hv1]; exact hv2) ls (lv_sub hl [1, 0, 2] rfl))
      refine pb_istore_n C dX2_nextHeight_2_64 rfl hl (by decide) rfl fun ls hl => ?_
      have hl : lv_has ls 5 [(2, .int (iZ (v1))), (1, .int (iZ (y))), (3, .ref (it)), (4, .ref ((nV V k)))] := hl
      refine pb_aload C dX2_nextHeight_2_65 (lv_at hl 3 rfl) ?_
      refine pb_getN C in_X5 hOb (ci := 4) rfl 2 (by decide) q471 (fun _ h9 => h9) (v := .int (iZ ((bd L k).2.1))) rfl dX2_nextHeight_2_67 ?_
      refine pb_iload_n C dX2_nextHeight_2_70 rfl (lv_at hl 1 rfl) ?_
      refine pb_icmp_le C dX2_nextHeight_2_71 (x := (bd L k).2.1) (y := y) (tgt := 96) (by decide) (by omega) (by omega) (fun c71_ => ?_) (fun c71_ => ?_)
      · refine pb_iload_n C dX2_nextHeight_2_96 rfl (lv_at hl 0 rfl) ?_
        exact pb_V.mono (by omega) (by omega) (L97 v1 (by unfold nhS; rw [if_neg (by omega)]) ls (lv_sub hl [1, 0, 2, 3] rfl))
      · refine pb_iload_n C dX2_nextHeight_2_74 rfl (lv_at hl 0 rfl) ?_
        refine pb_iload_n C dX2_nextHeight_2_75 rfl (lv_at hl 1 rfl) ?_
        refine pb_icmp_eq C dX2_nextHeight_2_76 (x := v1) (y := y) (tgt := 88) (by decide) (by omega) (by omega) (fun c76_ => ?_) (fun c76_ => ?_)
        · refine pb_aload C dX2_nextHeight_2_88 (lv_at hl 3 rfl) ?_
          refine pb_getN C in_X5 hOb (ci := 4) rfl 2 (by decide) q471 (fun _ h9 => h9) (v := .int (iZ ((bd L k).2.1))) rfl dX2_nextHeight_2_90 ?_
          refine pb_goto C dX2_nextHeight_2_93 (tgt := 97) (by decide) ?_
          exact pb_V.mono (by omega) (by omega) (L97 (bd L k).2.1 (by unfold nhS; rw [if_pos (by omega)]) ls (lv_sub hl [1, 0, 2, 3] rfl))
        · refine pb_aload C dX2_nextHeight_2_79 (lv_at hl 3 rfl) ?_
          refine pb_getN C in_X5 hOb (ci := 4) rfl 2 (by decide) q471 (fun _ h9 => h9) (v := .int (iZ ((bd L k).2.1))) rfl dX2_nextHeight_2_81 ?_
          refine pb_iload_n C dX2_nextHeight_2_84 rfl (lv_at hl 0 rfl) ?_
          refine pb_icmp_ge C dX2_nextHeight_2_85 (x := (bd L k).2.1) (y := v1) (tgt := 96) (by decide) (by omega) (by omega) (fun c85_ => ?_) (fun c85_ => ?_)
          · refine pb_iload_n C dX2_nextHeight_2_96 rfl (lv_at hl 0 rfl) ?_
            exact pb_V.mono (by omega) (by omega) (L97 v1 (by unfold nhS; rw [if_neg (by omega)]) ls (lv_sub hl [1, 0, 2, 3] rfl))
          · refine pb_aload C dX2_nextHeight_2_88 (lv_at hl 3 rfl) ?_
            refine pb_getN C in_X5 hOb (ci := 4) rfl 2 (by decide) q471 (fun _ h9 => h9) (v := .int (iZ ((bd L k).2.1))) rfl dX2_nextHeight_2_90 ?_
            refine pb_goto C dX2_nextHeight_2_93 (tgt := 97) (by decide) ?_
            exact pb_V.mono (by omega) (by omega) (L97 (bd L k).2.1 (by unfold nhS; rw [if_pos (by omega)]) ls (lv_sub hl [1, 0, 2, 3] rfl))
    refine pb_aload_n C dX2_nextHeight_2_12 rfl (lv_at hl 2 rfl) ?_
    refine pb_go_x (bc' := 0) (bs' := 0) (pb_runF (n := 0) (rest := []) C hG (x := ⟨"java/util/Iterator", "hasNext", "()Z"⟩) (met_J15_hasNext l it t k _ V hI (hLr.kept hFF) (by omega)) hIo (ci := 16) rfl (by decide) q683 q552 q554 q76 q556 (by decide +kernel) rfl hl.1 rfl (Nat.le_of_ble_eq_true rfl) ⟨(Nat.le_of_ble_eq_true rfl), (Nat.le_of_ble_eq_true rfl)⟩ dX2_nextHeight_2_13) (by omega) (by omega) ?_
    refine pb_ifB_eq C dX2_nextHeight_2_18 (tgt := 101) (by decide) (fun c18_ => ?_) (fun c18_ => ?_)
    · have c18_ := of_decide_eq_false c18_
      refine pb_iload_n C dX2_nextHeight_2_101 rfl (lv_at hl 1 rfl) ?_
      exact pb_iret C dX2_nextHeight_2_102 (⟨_, rfl, by rw [hnx, show L.length = k from by omega], hFF⟩)
    · have c18_ := of_decide_eq_true c18_
      refine pb_aload_n C dX2_nextHeight_2_21 rfl (lv_at hl 2 rfl) ?_
      refine pb_go_r (bc' := 0) (bs' := 0) (pb_runF (n := 0) (rest := []) C hG (x := ⟨"java/util/Iterator", "next", "()Ljava/lang/Object;"⟩) (met_J15_next l it t k _ V hI (hLr.kept hFF) (by omega) (fun h9 => absurd (show it < H0.size from h9) (by omega)) (by omega)) hIo (ci := 16) rfl (by decide) q685 q561 q563 q76 q565 (by decide +kernel) rfl hl.1 rfl (Nat.le_of_ble_eq_true rfl) ⟨(Nat.le_of_ble_eq_true rfl), (Nat.le_of_ble_eq_true rfl)⟩ dX2_nextHeight_2_22) (by omega) (by omega) (fun b_ H_ hp_ => ?_)
      obtain ⟨rfl, hI, hF1⟩ := hp_
      have hG := hG.kept (hF1.mono (fun q _ (hq : q < w.2.2.2) => show q ≠ _ from by omega))
      have hFF := hFF.tr (hF1.mono (fun q _ (hq : q < H0.size) => show q ≠ _ from by omega))
      obtain ⟨hPb, sp, hOb, hSp, hb1, hb2⟩ := (hBd k (by omega)).kept hFF
      obtain ⟨fsp_, hSo⟩ := hSp.o
      have hrgp := hSp.rg
      refine pb_cast C hOb (ci := 4) rfl q451 dX2_nextHeight_2_27 ?_
      refine pb_astore C dX2_nextHeight_2_30 hl (by decide) rfl fun ls hl => ?_
      have hl : lv_has ls 5 [(4, .ref ((nV V k))), (1, .int (iZ (y))), (2, .int (iZ (nx))), (3, .ref (it))] := hl
      refine pb_aload C dX2_nextHeight_2_32 (lv_at hl 0 rfl) ?_
      refine pb_getN C in_X5 hOb (ci := 4) rfl 0 (by decide) q464 (fun _ h9 => h9) (v := .int (iZ ((bd L k).1))) rfl dX2_nextHeight_2_34 ?_
      refine pb_iload_n C dX2_nextHeight_2_37 rfl (lv_at hl 1 rfl) ?_
      refine pb_icmp_le C dX2_nextHeight_2_38 (x := (bd L k).1) (y := y) (tgt := 63) (by decide) (by omega) (by omega) (fun c38_ => ?_) (fun c38_ => ?_)
      · refine pb_iload_n C dX2_nextHeight_2_63 rfl (lv_at hl 2 rfl) ?_
        exact pb_V.mono (by omega) (by omega) (L64 nx H_ hG (by unfold nhS; rw [if_neg (by omega)]) hI hFF (by omega) ls (lv_sub hl [1, 2, 3, 0] rfl))
      · refine pb_iload_n C dX2_nextHeight_2_41 rfl (lv_at hl 2 rfl) ?_
        refine pb_iload_n C dX2_nextHeight_2_42 rfl (lv_at hl 1 rfl) ?_
        refine pb_icmp_eq C dX2_nextHeight_2_43 (x := nx) (y := y) (tgt := 55) (by decide) (by omega) (by omega) (fun c43_ => ?_) (fun c43_ => ?_)
        · refine pb_aload C dX2_nextHeight_2_55 (lv_at hl 0 rfl) ?_
          refine pb_getN C in_X5 hOb (ci := 4) rfl 0 (by decide) q464 (fun _ h9 => h9) (v := .int (iZ ((bd L k).1))) rfl dX2_nextHeight_2_57 ?_
          refine pb_goto C dX2_nextHeight_2_60 (tgt := 64) (by decide) ?_
          exact pb_V.mono (by omega) (by omega) (L64 (bd L k).1 H_ hG (by unfold nhS; rw [if_pos (by omega)]) hI hFF (by omega) ls (lv_sub hl [1, 2, 3, 0] rfl))
        · refine pb_aload C dX2_nextHeight_2_46 (lv_at hl 0 rfl) ?_
          refine pb_getN C in_X5 hOb (ci := 4) rfl 0 (by decide) q464 (fun _ h9 => h9) (v := .int (iZ ((bd L k).1))) rfl dX2_nextHeight_2_48 ?_
          refine pb_iload_n C dX2_nextHeight_2_51 rfl (lv_at hl 2 rfl) ?_
          refine pb_icmp_ge C dX2_nextHeight_2_52 (x := (bd L k).1) (y := nx) (tgt := 63) (by decide) (by omega) (by omega) (fun c52_ => ?_) (fun c52_ => ?_)
          · refine pb_iload_n C dX2_nextHeight_2_63 rfl (lv_at hl 2 rfl) ?_
            exact pb_V.mono (by omega) (by omega) (L64 nx H_ hG (by unfold nhS; rw [if_neg (by omega)]) hI hFF (by omega) ls (lv_sub hl [1, 2, 3, 0] rfl))
          · refine pb_aload C dX2_nextHeight_2_55 (lv_at hl 0 rfl) ?_
            refine pb_getN C in_X5 hOb (ci := 4) rfl 0 (by decide) q464 (fun _ h9 => h9) (v := .int (iZ ((bd L k).1))) rfl dX2_nextHeight_2_57 ?_
            refine pb_goto C dX2_nextHeight_2_60 (tgt := 64) (by decide) ?_
            exact pb_V.mono (by omega) (by omega) (L64 (bd L k).1 H_ hG (by unfold nhS; rw [if_pos (by omega)]) hI hFF (by omega) ls (lv_sub hl [1, 2, 3, 0] rfl))
  refine pb_iload_n C dX2_nextHeight_2_0 rfl (lv_at hl 1 rfl) ?_
  refine pb_istore_n C dX2_nextHeight_2_1 rfl hl (by decide) rfl fun ls hl => ?_
  have hl : lv_has ls 5 [(2, .int (iZ (y))), (0, .ref (a)), (1, .int (iZ (y)))] := hl
  refine pb_aload_n C dX2_nextHeight_2_2 rfl (lv_at hl 1 rfl) ?_
  refine pb_get C in_X2 hO (ci := 1) rfl 0 (by decide) q139 (fun _ h9 => h9) (v := .ref (t)) rfl dX2_nextHeight_2_3 ?_
  obtain ⟨fsL9_, hLo9⟩ := (hLr.kept hFF).o
  refine pb_go_r (bc' := 0) (bs' := 0) (pb_runF (n := 0) (rest := []) C hG (x := ⟨"java/util/List", "iterator", "()Ljava/util/Iterator;"⟩) (met_J2_iterator l t _ V (hLr.kept hFF)) hLo9 (ci := 15) rfl (by decide) q681 q523 q525 q54 q527 (by decide +kernel) rfl hl.1 rfl (Nat.le_of_ble_eq_true rfl) ⟨(Nat.le_of_ble_eq_true rfl), (Nat.le_of_ble_eq_true rfl)⟩ dX2_nextHeight_2_6) (by omega) (by omega) (fun it H_ hp_ => ?_)
  obtain ⟨hit, hI, hF1⟩ := hp_
  have hz4 := hFF.1
  have hG := hG.kept (hF1.mono (fun _ _ _ => trivial))
  have hFF := hFF.tr (hF1.mono (fun _ _ _ => trivial))
  refine pb_astore_n C dX2_nextHeight_2_11 rfl hl (by decide) rfl fun ls hl => ?_
  have hl : lv_has ls 5 [(3, .ref (it)), (2, .int (iZ (y))), (0, .ref (a)), (1, .int (iZ (y)))] := hl
  exact pb_V.mono (by omega) (by omega) (L12 _ 0 it y H_ rfl hG (by omega) (by omega) hI hFF rfl ls (lv_sub hl [3, 1, 0] rfl))

set_option maxHeartbeats 1000000 in
theorem met_X2_nextHeight {w : pb_W} (l : Launch) {H0 : Heap} (a b : Nat) (P P2 : Nat → Prop) (L M : List Bnd) (hR : Rg w H0 P a L) (hR2 : Rg w H0 P2 b M) (y : Int) (hy : -1000 ≤ y ∧ y ≤ 1000) : pb_M w l yX2_nextHeight cX2_nextHeight 5 (some .int) 4 (2) (8) [.ref (a), .ref (b), .int (iZ (y))] H0 (pb_qi (fun z H1 => z = nhAll L M y ∧ pb_F (fun q => q < H0.size) H0 H1)) := by
  refine pb_of (by decide +kernel) (Nat.le_of_ble_eq_true rfl) ?_
  intro p_ e_ s_ m_ ar_ bl_ me_ co_ ls C hh hG hl
  have hl : lv_has ls 5 [(0, .ref (a)), (1, .ref (b)), (2, .int (iZ (y)))] := hl
  have hzs := hG.1
  have hFF : pb_F (fun q => q < H0.size) H0 H0 := pb_F.rf
  have hR := hR.below
  have hR2 := hR2.below
  obtain ⟨fsR_, hRo⟩ := hR.o
  have hrb := hR.rb
  have hrb2 := hR2.rb
  refine pb_aload_n C dX2_nextHeight_0 rfl (lv_at hl 0 rfl) ?_
  refine pb_iload_n C dX2_nextHeight_1 rfl (lv_at hl 2 rfl) ?_
  refine pb_go_i (bc' := 1) (bs' := 4) (pb_runV (rest := []) C hG (met_X2_nextHeight_2 l a _ L hR y hy) hRo (ci := 1) rfl (lw_V q676 q678 qs7 q55 q679) ⟨rfl, hdX2_nextHeight_2⟩ rfl hl.1 rfl (Nat.le_of_ble_eq_true rfl) ⟨(Nat.le_of_ble_eq_true rfl), (Nat.le_of_ble_eq_true rfl)⟩ dX2_nextHeight_2) (by omega) (by omega) (fun n1 H_ hp_ => ?_)
  obtain ⟨hn1, hF1⟩ := hp_
  have hG := hG.kept (hF1.mono (fun q _ (hq : q < w.2.2.2) => Nat.lt_of_lt_of_le hq hG.1))
  have hFF := hFF.tr (hF1.mono (fun q _ (hq : q < H0.size) => Nat.lt_of_lt_of_le hq hFF.1))
  have hrn1 := nhF_rg hrb hy L.length
  have hR2 := hR2.kept hF1
  obtain ⟨fsR2_, hRo2⟩ := hR2.o
  refine pb_istore_n C dX2_nextHeight_5 rfl hl (by decide) rfl fun ls hl => ?_
  have hl : lv_has ls 5 [(3, .int (iZ (n1))), (0, .ref (a)), (1, .ref (b)), (2, .int (iZ (y)))] := hl
  refine pb_aload_n C dX2_nextHeight_6 rfl (lv_at hl 2 rfl) ?_
  refine pb_iload_n C dX2_nextHeight_7 rfl (lv_at hl 3 rfl) ?_
  refine pb_go_i (bc' := 0) (bs' := 0) (pb_runV (rest := []) C hG (met_X2_nextHeight_2 l b _ M hR2 y hy) hRo2 (ci := 1) rfl (lw_V q676 q678 qs7 q55 q679) ⟨rfl, hdX2_nextHeight_2⟩ rfl hl.1 rfl (Nat.le_of_ble_eq_true rfl) ⟨(Nat.le_of_ble_eq_true rfl), (Nat.le_of_ble_eq_true rfl)⟩ dX2_nextHeight_8) (by omega) (by omega) (fun n2 H_ hp_ => ?_)
  obtain ⟨hn2, hF1⟩ := hp_
  have hG := hG.kept (hF1.mono (fun q _ (hq : q < w.2.2.2) => Nat.lt_of_lt_of_le hq hG.1))
  have hFF := hFF.tr (hF1.mono (fun q _ (hq : q < H0.size) => Nat.lt_of_lt_of_le hq hFF.1))
  have hrn2 := nhF_rg hrb2 hy M.length
  refine pb_istore C dX2_nextHeight_11 hl (by decide) rfl fun ls hl => ?_
  have hl : lv_has ls 5 [(4, .int (iZ (n2))), (3, .int (iZ (n1))), (0, .ref (a)), (1, .ref (b)), (2, .int (iZ (y)))] := hl
  refine pb_iload_n C dX2_nextHeight_13 rfl (lv_at hl 1 rfl) ?_
  refine pb_iload_n C dX2_nextHeight_14 rfl (lv_at hl 4 rfl) ?_
  refine pb_icmp_eq C dX2_nextHeight_15 (x := n1) (y := y) (tgt := 24) (by decide) (by omega) (by omega) (fun c15_ => ?_) (fun c15_ => ?_)
  · refine pb_iload_n C dX2_nextHeight_24 rfl (lv_at hl 1 rfl) ?_
    refine pb_iload C dX2_nextHeight_25 (lv_at hl 0 rfl) ?_
    refine pb_mmax C (x := n1) (y := n2) q686 q171 q57 q172 hl.1 ⟨(Nat.le_of_ble_eq_true rfl), (Nat.le_of_ble_eq_true rfl)⟩ (by omega) (by omega) dX2_nextHeight_27 ?_
    exact pb_iret C dX2_nextHeight_30 (⟨_, rfl, by rw [nhAll, ← hn1, ← hn2, nh2, if_pos (by omega)], hFF⟩)
  · refine pb_iload C dX2_nextHeight_18 (lv_at hl 0 rfl) ?_
    refine pb_iload_n C dX2_nextHeight_20 rfl (lv_at hl 4 rfl) ?_
    refine pb_icmp_ne C dX2_nextHeight_21 (x := n2) (y := y) (tgt := 31) (by decide) (by omega) (by omega) (fun c21_ => ?_) (fun c21_ => ?_)
    · refine pb_iload_n C dX2_nextHeight_31 rfl (lv_at hl 1 rfl) ?_
      refine pb_iload C dX2_nextHeight_32 (lv_at hl 0 rfl) ?_
      refine pb_mmin C (x := n1) (y := n2) q672 q220 q57 q221 hl.1 ⟨(Nat.le_of_ble_eq_true rfl), (Nat.le_of_ble_eq_true rfl)⟩ (by omega) (by omega) dX2_nextHeight_34 ?_
      exact pb_iret C dX2_nextHeight_37 (⟨_, rfl, by rw [nhAll, ← hn1, ← hn2, nh2, if_neg (by omega)], hFF⟩)
    · refine pb_iload_n C dX2_nextHeight_24 rfl (lv_at hl 1 rfl) ?_
      refine pb_iload C dX2_nextHeight_25 (lv_at hl 0 rfl) ?_
      refine pb_mmax C (x := n1) (y := n2) q686 q171 q57 q172 hl.1 ⟨(Nat.le_of_ble_eq_true rfl), (Nat.le_of_ble_eq_true rfl)⟩ (by omega) (by omega) dX2_nextHeight_27 ?_
      exact pb_iret C dX2_nextHeight_30 (⟨_, rfl, by rw [nhAll, ← hn1, ← hn2, nh2, if_pos (by omega)], hFF⟩)

