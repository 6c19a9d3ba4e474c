set_option maxRecDepth 100000
set_option maxHeartbeats 1000000 in
theorem met_X7_scan_X13 {w : pb_W} (l : Launch) {H0 : Heap} (z c a : Nat) (L : List Bnd) (hR : Rg w H0 (fun q => q < z) a L) (s0 : pSt) (hz : w.2.2.2 ≤ z) (hPw : Pw w H0 z c s0) (NR : Nat) (hNR : s0.1.length + cntR L L.length ≤ NR ∧ NR ≤ 1800) : pb_M w l yX7_scan cX7_scan 5 none 8 (1 + rpP NR s0.1.length) (4 + rpQ NR s0.1.length) [.ref (c), .ref (a)] H0 (pb_qv (fun H1 => Pw w H1 z c (scL paS L s0 L.length) ∧ pb_F (fun q => q < z) H0 H1)) := by
  refine pb_of (by decide +kernel) (Nat.le_of_ble_eq_true rfl) ?_
  intro p_ e_ s_ m_ ar_ bl_ me_ co_ ls C hh hG hl
  have hl : lv_has ls 5 [(0, .ref (c)), (1, .ref (a))] := hl
  have hzs := hG.1
  have hFF : pb_F (fun q => q < z) H0 H0 := pb_F.rf
  have hclt := hPw.lt
  have hq9 : rpP NR (s0.1.length + cntR L 0) = rpP NR s0.1.length ∧ rpQ NR (s0.1.length + cntR L 0) = rpQ NR s0.1.length := ⟨rfl, rfl⟩
  skip
  obtain ⟨t, V, hPa, hO, hLr, hVn, hBd⟩ := id hR
  obtain ⟨fsL_, hLo⟩ := hLr.o
  have hn9 := hLr.n
  have hrb := hR.rb
  have L10 : ∀ (n_ : Nat) (k it : Nat) (H : Heap), V.length - k = n_ → (pb_G w s_ H) → (k ≤ V.length) → (H0.size ≤ it) → (It w H it t k V.length) → (pb_F (fun q => q < z) H0 H) → (Pw w H z c (scL paS L s0 k)) → ∀ (ls : Array Slot), lv_has ls 5 [(0, .ref (c)), (2, .ref (it))] → pb_V w.2.2.2 p_ l e_ (pb_rm 8 (1 + rpP NR s0.1.length) (4 + rpQ NR s0.1.length)) s_ m_ ar_ bl_ me_ co_ H (rpP NR (s0.1.length + cntR L k)) (rpQ NR (s0.1.length + cntR L k)) (pb_E w bl_ ar_ s_ (1 + rpP NR s0.1.length) (4 + rpQ NR s0.1.length) (pb_qv (fun H1 => Pw w H1 z c (scL paS L s0 L.length) ∧ pb_F (fun q => q < z) H0 H1))) (F0 m_ 10 ls []) := by
    intro n_
    induction n_ using Nat.strongRecOn with
    | _ n_ ih10 =>
    intro k it H hm_ hG hk hit hI hFF hPw ls hl
    obtain ⟨fsI_, hIo⟩ := hI.o
    have L32 : ∀ (n_ : Nat) (j : Nat) (H : Heap), (bE L k).length / 2 - j = n_ → (pb_G w s_ H) → (j ≤ (bE L k).length / 2) → (k < V.length) → (It w H it t (k + 1) V.length) → (Pw w H z c (scE paS (bd L k).1 (bd L k).2.1 (bE L k) (scL paS L s0 k) j)) → (pb_F (fun q => q < z) H0 H) → ∀ (ls : Array Slot), lv_has ls 5 [(0, .ref (c)), (2, .ref (it)), (3, .ref ((nV V k))), (4, .int (iZ (((j : Nat) : Int))))] → pb_V w.2.2.2 p_ l e_ (pb_rm 8 (1 + rpP NR s0.1.length) (4 + rpQ NR s0.1.length)) s_ m_ ar_ bl_ me_ co_ H (rpP NR (s0.1.length + cntR L k + j)) (rpQ NR (s0.1.length + cntR L k + j)) (pb_E w bl_ ar_ s_ (1 + rpP NR s0.1.length) (4 + rpQ NR s0.1.length) (pb_qv (fun H1 => Pw w H1 z c (scL paS L s0 L.length) ∧ pb_F (fun q => q < z) H0 H1))) (F0 m_ 32 ls []) := by
      intro n_
      induction n_ using Nat.strongRecOn with
      | _ n_ ih32 =>
      intro j H hm_ hG hj hkV hI hPw hFF ls hl
      obtain ⟨hPb, sp, hOb, hSp, hb1, hb2⟩ := (hBd k (by omega)).kept hFF
      obtain ⟨fsp_, hSo⟩ := hSp.o
      have hl64 : (bE L k).length ≤ 64 := hSp.rg.2
      obtain ⟨fsc_, hPwo⟩ := hPw.o
      have hsl := scE_len (bd L k).1 (bd L k).2.1 (bE L k) (scL paS L s0 k) j
      have hsl2 := scL_len L s0 k
      have hcn := cntR_le L (k := k + 1) (m := L.length) (by omega)
      rw [cntR] at hcn
      refine pb_iload C dX7_scan_32 (lv_at hl 3 rfl) ?_
      refine pb_aload_n C dX7_scan_34 rfl (lv_at hl 2 rfl) ?_
      refine pb_getN C in_X5 hOb (ci := 4) rfl 1 (by decide) q467 (fun _ h9 => h9) (v := .ref (sp)) rfl dX7_scan_35 ?_
      refine pb_go_x (bc' := rpP NR (s0.1.length + cntR L k + j)) (bs' := rpQ NR (s0.1.length + cntR L k + j)) (pb_runV (rest := [.int (iZ (((j : Nat) : Int)))]) C hG (met_X4_size l sp _ (bE L k) hSp) hSo (ci := 3) rfl (lw_V q586 q428 q429 q70 q430) ⟨rfl, hdX4_size⟩ rfl hl.1 rfl (Nat.le_of_ble_eq_true rfl) ⟨(Nat.le_of_ble_eq_true rfl), (Nat.le_of_ble_eq_true rfl)⟩ dX7_scan_38) (by omega) (by omega) ?_
      refine pb_icmp_ge C dX7_scan_41 (x := ((j : Nat) : Int)) (y := ((((bE L k).length / 2) : Nat) : Int)) (tgt := 80) (by decide) (by omega) (by omega) (fun c41_ => ?_) (fun c41_ => ?_)
      · have hj9 : j = (bE L k).length / 2 := by omega
        have hsl4 : rpP NR (s0.1.length + cntR L (k + 1)) = rpP NR (s0.1.length + cntR L k + j) ∧ rpQ NR (s0.1.length + cntR L (k + 1)) = rpQ NR (s0.1.length + cntR L k + j) := by rw [cntR, ← hj9, Nat.add_assoc]; exact ⟨rfl, rfl⟩
        refine pb_goto C dX7_scan_80 (tgt := 10) (by decide) ?_
        exact pb_V.mono (by omega) (by omega) (ih10 _ (by omega) (k + 1) it H rfl hG (by omega) (by omega) hI hFF (by rw [scL, ← hj9]; exact hPw) ls (lv_sub hl [0, 1] rfl))
      · refine pb_aload_n C dX7_scan_44 rfl (lv_at hl 0 rfl) ?_
        refine pb_aload_n C dX7_scan_45 rfl (lv_at hl 2 rfl) ?_
        refine pb_getN C in_X5 hOb (ci := 4) rfl 1 (by decide) q467 (fun _ h9 => h9) (v := .ref (sp)) rfl dX7_scan_46 ?_
        refine pb_iload C dX7_scan_49 (lv_at hl 3 rfl) ?_
        refine pb_go_x (bc' := rpP NR (s0.1.length + cntR L k + j)) (bs' := rpQ NR (s0.1.length + cntR L k + j)) (pb_runV (rest := [.ref (c)]) C hG (met_X4_left l sp _ (bE L k) hSp j (by omega)) hSo (ci := 3) rfl (lw_V q587 q588 q589 q70 q590) ⟨rfl, hdX4_left⟩ rfl hl.1 rfl (Nat.le_of_ble_eq_true rfl) ⟨(Nat.le_of_ble_eq_true rfl), (Nat.le_of_ble_eq_true rfl)⟩ dX7_scan_51) (by omega) (by omega) ?_
        refine pb_aload_n C dX7_scan_54 rfl (lv_at hl 2 rfl) ?_
        refine pb_getN C in_X5 hOb (ci := 4) rfl 0 (by decide) q462 (fun _ h9 => h9) (v := .int (iZ ((bd L k).1))) rfl dX7_scan_55 ?_
        refine pb_aload_n C dX7_scan_58 rfl (lv_at hl 2 rfl) ?_
        refine pb_getN C in_X5 hOb (ci := 4) rfl 1 (by decide) q467 (fun _ h9 => h9) (v := .ref (sp)) rfl dX7_scan_59 ?_
        refine pb_iload C dX7_scan_62 (lv_at hl 3 rfl) ?_
        refine pb_go_x (bc' := rpP NR (s0.1.length + cntR L k + j)) (bs' := rpQ NR (s0.1.length + cntR L k + j)) (pb_runV (rest := [.int (iZ ((bd L k).1)), .int (iZ ((eE (bE L k) (2 * j)))), .ref (c)]) C hG (met_X4_right l sp _ (bE L k) hSp j (by omega)) hSo (ci := 3) rfl (lw_V q591 q592 q593 q70 q594) ⟨rfl, hdX4_right⟩ rfl hl.1 rfl (Nat.le_of_ble_eq_true rfl) ⟨(Nat.le_of_ble_eq_true rfl), (Nat.le_of_ble_eq_true rfl)⟩ dX7_scan_64) (by omega) (by omega) ?_
        refine pb_aload_n C dX7_scan_67 rfl (lv_at hl 2 rfl) ?_
        refine pb_getN C in_X5 hOb (ci := 4) rfl 2 (by decide) q470 (fun _ h9 => h9) (v := .int (iZ ((bd L k).2.1))) rfl dX7_scan_68 ?_
        have hst : rpP NR (s0.1.length + cntR L k + j) = 2 + (lC ((scE paS (bd L k).1 (bd L k).2.1 (bE L k) (scL paS L s0 k) j).1.length + 1) - lC (scE paS (bd L k).1 (bd L k).2.1 (bE L k) (scL paS L s0 k) j).1.length) + rpP NR (s0.1.length + cntR L k + (j + 1)) ∧ rpQ NR (s0.1.length + cntR L k + j) = 9 + (lS ((scE paS (bd L k).1 (bd L k).2.1 (bE L k) (scL paS L s0 k) j).1.length + 1) - lS (scE paS (bd L k).1 (bd L k).2.1 (bE L k) (scL paS L s0 k) j).1.length) + rpQ NR (s0.1.length + cntR L k + (j + 1)) := by rw [hsl, hsl2]; exact rpP_step (by omega)
        have her1 : -1000 ≤ eE (bE L k) (2 * j) ∧ eE (bE L k) (2 * j) ≤ 1000 := eE_rg hSp.rg.1
        have her2 : -1000 ≤ eE (bE L k) (2 * j + 1) ∧ eE (bE L k) (2 * j + 1) ≤ 1000 := eE_rg hSp.rg.1
        refine pb_go_v (bc' := rpP NR (s0.1.length + cntR L k + j) - ((2 + (lC ((scE paS (bd L k).1 (bd L k).2.1 (bE L k) (scL paS L s0 k) j).1.length + 1) - lC (scE paS (bd L k).1 (bd L k).2.1 (bE L k) (scL paS L s0 k) j).1.length)))) (bs' := rpQ NR (s0.1.length + cntR L k + j) - ((9 + (lS ((scE paS (bd L k).1 (bd L k).2.1 (bE L k) (scL paS L s0 k) j).1.length + 1) - lS (scE paS (bd L k).1 (bd L k).2.1 (bE L k) (scL paS L s0 k) j).1.length)))) (pb_runO (rest := []) C hG (met_X13_visit l z c (scE paS (bd L k).1 (bd L k).2.1 (bE L k) (scL paS L s0 k) j) (eE (bE L k) (2 * j)) (bd L k).1 (eE (bE L k) (2 * j + 1)) (bd L k).2.1 her1 (by omega) her2 (by omega) hz hPw (by omega)) (x := ⟨"PolygonBoard$Scan", "visit", "(IIII)V"⟩) (owner := "PolygonBoard$Scan") hPwo (ci := 8) rfl q595 q597 q596 q602 q616 q617 q85 q618 (n := 4) ⟨by decide, by decide, by decide +kernel⟩ rfl hl.1 rfl (Nat.le_of_ble_eq_true rfl) ⟨(Nat.le_of_ble_eq_true rfl), (Nat.le_of_ble_eq_true rfl)⟩ dX7_scan_71) (by omega) (by omega) (fun H_ hp_ => ?_)
        obtain ⟨hPw, hF1⟩ := hp_
        have hG := hG.kept (hF1.mono (fun q _ (hq : q < w.2.2.2) => Or.inl (by omega)))
        have hI : It w H_ it t (k + 1) V.length := pb_O.kept hI (hF1.2 _ (pb_O.lt hI) (Or.inr hI.ty))
        have hFF := hFF.tr (hF1.mono (fun q _ hq => Or.inl hq))
        have hsl3 := scE_len (bd L k).1 (bd L k).2.1 (bE L k) (scL paS L s0 k) (j + 1)
        refine pb_iinc C dX7_scan_74 hl (j := 3) (x := (((j : Nat) : Int))) rfl (by decide) rfl fun ls hl => ?_
        have hl : lv_has ls 5 [(4, .int (iZ ((((j + 1) : Nat) : Int)))), (0, .ref (c)), (2, .ref (it)), (3, .ref ((nV V k)))] := hl
        refine pb_goto C dX7_scan_77 (tgt := 32) (by decide) ?_
        exact pb_V.mono (by omega) (by omega) (ih32 _ (by omega) (j + 1) H_ rfl hG (by omega) (by omega) hI hPw hFF ls (lv_sub hl [1, 2, 3, 0] rfl))
    refine pb_aload_n C dX7_scan_10 rfl (lv_at hl 1 rfl) ?_
    refine pb_go_x (bc' := rpP NR (s0.1.length + cntR L k)) (bs' := rpQ NR (s0.1.length + cntR L k)) (pb_runF (n := 0) (rest := []) C hG (x := ⟨"java/util/Iterator", "hasNext", "()Z"⟩) (met_J15_hasNext l it t k _ V hI (hLr.kept hFF) (by omega)) hIo (ci := 16) rfl (by decide) q548 q552 q554 q76 q556 (by decide +kernel) rfl hl.1 rfl (Nat.le_of_ble_eq_true rfl) ⟨(Nat.le_of_ble_eq_true rfl), (Nat.le_of_ble_eq_true rfl)⟩ dX7_scan_11) (by omega) (by omega) ?_
    refine pb_ifB_eq C dX7_scan_16 (tgt := 83) (by decide) (fun c16_ => ?_) (fun c16_ => ?_)
    · have c16_ := of_decide_eq_false c16_
      exact pb_vret C dX7_scan_83 (⟨rfl, by rw [show L.length = k from by omega]; exact hPw, hFF⟩)
    · have c16_ := of_decide_eq_true c16_
      refine pb_aload_n C dX7_scan_19 rfl (lv_at hl 1 rfl) ?_
      have hIT := hI.ty
      have h0T : pb_Ty w H (w.2.2.1 0) 23 := hG.2.2.2.1.ty
      refine pb_go_r (bc' := rpP NR (s0.1.length + cntR L k)) (bs' := rpQ NR (s0.1.length + cntR L k)) (pb_runF (n := 0) (rest := []) C hG (x := ⟨"java/util/Iterator", "next", "()Ljava/lang/Object;"⟩) (met_J15_next l it t k _ V hI (hLr.kept hFF) (by omega) (fun h9 => absurd (show it < z from h9) (by omega)) (by omega)) hIo (ci := 16) rfl (by decide) q558 q561 q563 q76 q565 (by decide +kernel) rfl hl.1 rfl (Nat.le_of_ble_eq_true rfl) ⟨(Nat.le_of_ble_eq_true rfl), (Nat.le_of_ble_eq_true rfl)⟩ dX7_scan_20) (by omega) (by omega) (fun b_ H_ hp_ => ?_)
      obtain ⟨rfl, hI, hF1⟩ := hp_
      have hG := hG.kept (hF1.mono (fun q _ (hq : q < w.2.2.2) => show q ≠ _ from by omega))
      have hFF := hFF.tr (hF1.mono (fun q _ (hq : q < z) => show q ≠ _ from by omega))
      obtain ⟨hPb, sp, hOb, hSp, hb1, hb2⟩ := (hBd k (by omega)).kept hFF
      obtain ⟨fsp_, hSo⟩ := hSp.o
      have hrgp := hSp.rg
      have hPw := hPw.fr h0T hF1 (fun q k h1 h2 h3 => h3.ne C.inj hIT h1 (by decide) h2)
      have hl64 : (bE L k).length ≤ 64 := hrgp.2
      have hq0 : rpP NR (s0.1.length + cntR L k + 0) = rpP NR (s0.1.length + cntR L k) ∧ rpQ NR (s0.1.length + cntR L k + 0) = rpQ NR (s0.1.length + cntR L k) := ⟨rfl, rfl⟩
      refine pb_cast C hOb (ci := 4) rfl q585 dX7_scan_25 ?_
      refine pb_astore_n C dX7_scan_28 rfl hl (by decide) rfl fun ls hl => ?_
      have hl : lv_has ls 5 [(3, .ref ((nV V k))), (0, .ref (c)), (2, .ref (it))] := hl
      refine pb_ic C dX7_scan_29 ?_
      refine pb_istore C dX7_scan_30 hl (by decide) rfl fun ls hl => ?_
      have hl : lv_has ls 5 [(4, .int (iZ (0))), (3, .ref ((nV V k))), (0, .ref (c)), (2, .ref (it))] := hl
      exact pb_V.mono (by omega) (by omega) (L32 _ 0 H_ rfl hG (by omega) (by omega) hI hPw hFF ls (lv_sub hl [2, 3, 1, 0] rfl))
  refine pb_aload_n C dX7_scan_0 rfl (lv_at hl 1 rfl) ?_
  refine pb_getN C in_X2 hO (ci := 1) rfl 0 (by decide) q140 (fun _ h9 => h9) (v := .ref (t)) rfl dX7_scan_1 ?_
  obtain ⟨fsL9_, hLo9⟩ := (hLr.kept hFF).o
  refine pb_go_r (bc' := 1 + rpP NR s0.1.length - 1) (bs' := 4 + rpQ NR s0.1.length - 4) (pb_runF (n := 0) (rest := []) C hG (x := ⟨"java/util/List", "iterator", "()Ljava/util/Iterator;"⟩) (met_J2_iterator l t _ V (hLr.kept hFF)) hLo9 (ci := 15) rfl (by decide) q520 q523 q525 q54 q527 (by decide +kernel) rfl hl.1 rfl (Nat.le_of_ble_eq_true rfl) ⟨(Nat.le_of_ble_eq_true rfl), (Nat.le_of_ble_eq_true rfl)⟩ dX7_scan_4) (by omega) (by omega) (fun it H_ hp_ => ?_)
  obtain ⟨hit, hI, hF1⟩ := hp_
  have hz4 := hFF.1
  have hG := hG.kept (hF1.mono (fun _ _ _ => trivial))
  have hFF := hFF.tr (hF1.mono (fun _ _ _ => trivial))
  have hPw := hPw.all hF1
  refine pb_astore_n C dX7_scan_9 rfl hl (by decide) rfl fun ls hl => ?_
  have hl : lv_has ls 5 [(2, .ref (it)), (0, .ref (c)), (1, .ref (a))] := hl
  exact pb_V.mono (by omega) (by omega) (L10 _ 0 it H_ rfl hG (by omega) (by omega) hI hFF hPw ls (lv_sub hl [1, 0] rfl))

set_option maxHeartbeats 1000000 in
theorem met_X13_partAt {w : pb_W} (l : Launch) {H0 : Heap} (c t : Nat) (v0 v2 : Value) (V : List Nat) (RR : List Rct) (P ro : Nat → Nat) (Pr : Nat → Prop) (hO : pb_R w H0 c 8 [v0, .ref t, v2]) (hLr : Lr w H0 Pr t V) (hVn : V.length = RR.length) (hRO : RO w H0 V RR P) (hds : dsV V) (hFO : FO_ RR.length P ro) (x y : Int) (hx : -2000 ≤ x ∧ x ≤ 2000) (hy : -2000 ≤ y ∧ y ≤ 2000) : pb_M w l yX13_partAt cX13_partAt 6 (some (.object "PolygonBoard$Rectangle")) 3 (1) (4) [.ref (c), .int (iZ (x)), .int (iZ (y))] H0 (pb_qq (fun v H1 => v = va_rf ((paK RR ro x y RR.length).map (nV V)) ∧ pb_F (fun q => q < H0.size) H0 H1)) := by
  refine pb_of (by decide +kernel) (Nat.le_of_ble_eq_true rfl) ?_
  intro p_ e_ s_ m_ ar_ bl_ me_ co_ ls C hh hG hl
  have hl : lv_has ls 6 [(0, .ref (c)), (1, .int (iZ (x))), (2, .int (iZ (y)))] := hl
  have hzs := hG.1
  have hFF : pb_F (fun q => q < H0.size) H0 H0 := pb_F.rf
  have hLr := hLr.below
  obtain ⟨fsL_, hLo⟩ := hLr.o
  have hn9 := hLr.n
  have L13 : ∀ (n_ : Nat) (k it : Nat) (o9 : Option Nat) (H : Heap), V.length - k = n_ → (pb_G w s_ H) → (k ≤ V.length) → (H0.size ≤ it) → (o9 = (paK RR ro x y k).map (nV V)) → (It w H it t k V.length) → (pb_F (fun q => q < H0.size) H0 H) → ∀ (ls : Array Slot), lv_has ls 6 [(3, va_rf o9), (1, .int (iZ (x))), (2, .int (iZ (y))), (4, .ref (it))] → pb_V w.2.2.2 p_ l e_ (pb_rm 3 (1) (4)) s_ m_ ar_ bl_ me_ co_ H (0) (0) (pb_E w bl_ ar_ s_ (1) (4) (pb_qq (fun v H1 => v = va_rf ((paK RR ro x y RR.length).map (nV V)) ∧ pb_F (fun q => q < H0.size) H0 H1))) (F0 m_ 13 ls []) := by
    intro n_
    induction n_ using Nat.strongRecOn with
    | _ n_ ih13 =>
    intro k it o9 H hm_ hG hk hit ho hI hFF ls hl
    obtain ⟨fsI_, hIo⟩ := hI.o
    cases o9 with
    | none =>
      have hl : lv_has ls 6 [(3, .null), (1, .int (iZ (x))), (2, .int (iZ (y))), (4, .ref (it))] := hl
      refine pb_aload C dX13_partAt_13 (lv_at hl 3 rfl) ?_
      refine pb_go_x (bc' := 0) (bs' := 0) (pb_runF (n := 0) (rest := []) C hG (x := ⟨"java/util/Iterator", "hasNext", "()Z"⟩) (met_J15_hasNext l it t k _ V hI (hLr.kept hFF) (by omega)) hIo (ci := 16) rfl (by decide) q651 q552 q554 q76 q556 (by decide +kernel) rfl hl.1 rfl (Nat.le_of_ble_eq_true rfl) ⟨(Nat.le_of_ble_eq_true rfl), (Nat.le_of_ble_eq_true rfl)⟩ dX13_partAt_15) (by omega) (by omega) ?_
      refine pb_ifB_eq C dX13_partAt_20 (tgt := 58) (by decide) (fun c20_ => ?_) (fun c20_ => ?_)
      · have c20_ := of_decide_eq_false c20_
        refine pb_aload_nN C dX13_partAt_58 rfl (lv_at hl 0 rfl) ?_
        exact pb_aret C (Or.inl ⟨_, rfl⟩) dX13_partAt_59 (Or.inl rfl) (⟨_, rfl, by rw [show RR.length = k from by omega, ← ho]; rfl, hFF⟩)
      · have c20_ := of_decide_eq_true c20_
        refine pb_aload C dX13_partAt_23 (lv_at hl 3 rfl) ?_
        refine pb_go_r (bc' := 0) (bs' := 0) (pb_runF (n := 0) (rest := []) C hG (x := ⟨"java/util/Iterator", "next", "()Ljava/lang/Object;"⟩) (met_J15_next l it t k _ V hI (hLr.kept hFF) (by omega) (fun h9 => absurd (show it < H0.size from h9) (by omega)) (by omega)) hIo (ci := 16) rfl (by decide) q653 q561 q563 q76 q565 (by decide +kernel) rfl hl.1 rfl (Nat.le_of_ble_eq_true rfl) ⟨(Nat.le_of_ble_eq_true rfl), (Nat.le_of_ble_eq_true rfl)⟩ dX13_partAt_25) (by omega) (by omega) (fun b_ H_ hp_ => ?_)
        obtain ⟨rfl, hI, hF1⟩ := hp_
        have hG := hG.kept (hF1.mono (fun q _ (hq : q < w.2.2.2) => show q ≠ _ from by omega))
        have hFF := hFF.tr (hF1.mono (fun q _ (hq : q < H0.size) => show q ≠ _ from by omega))
        have hRO9 : RO w H_ V RR P := fun i hi => ⟨(hRO i hi).1.kept (hFF.2 _ (hRO i hi).1.lt (hRO i hi).1.lt), (hRO i hi).2⟩
        obtain ⟨hok, hrk⟩ := hRO9 k (by omega)
        refine pb_cast C hok.r (ci := 9) rfl q621 dX13_partAt_30 ?_
        refine pb_astore C dX13_partAt_33 hl (by decide) rfl fun ls hl => ?_
        have hl : lv_has ls 6 [(5, .ref ((nV V k))), (3, .null), (1, .int (iZ (x))), (2, .int (iZ (y))), (4, .ref (it))] := hl
        refine pb_aload C dX13_partAt_35 (lv_at hl 0 rfl) ?_
        refine pb_iload_n C dX13_partAt_37 rfl (lv_at hl 2 rfl) ?_
        refine pb_iload_n C dX13_partAt_38 rfl (lv_at hl 3 rfl) ?_
        refine pb_go_x (bc' := 0) (bs' := 0) (pb_runV (rest := []) C hG (met_X10_contains l (nV V k) _ (rc RR k) hok.r hrk x y hx hy) hok.r (ci := 9) rfl (lw_V q1077 q1078 q1079 q79 q1080) ⟨rfl, hdX10_contains⟩ rfl hl.1 rfl (Nat.le_of_ble_eq_true rfl) ⟨(Nat.le_of_ble_eq_true rfl), (Nat.le_of_ble_eq_true rfl)⟩ dX13_partAt_39) (by omega) (by omega) ?_
        refine pb_ifB_eq C dX13_partAt_42 (tgt := 53) (by decide) (fun c42_ => ?_) (fun c42_ => ?_)
        · refine pb_aload_nN C dX13_partAt_53 rfl (lv_at hl 1 rfl) ?_
          refine pb_astore_nN C dX13_partAt_54 rfl hl (by decide) rfl fun ls hl => ?_
          have hl : lv_has ls 6 [(3, .null), (5, .ref ((nV V k))), (1, .int (iZ (x))), (2, .int (iZ (y))), (4, .ref (it))] := hl
          refine pb_goto C dX13_partAt_55 (tgt := 13) (by decide) ?_
          exact pb_V.mono (by omega) (by omega) (ih13 _ (by omega) (k + 1) it none H_ rfl hG (by omega) (by omega) (by rw [paK, if_neg (by rw [c42_]; exact Bool.false_ne_true)]; exact ho) hI hFF ls (lv_sub hl [0, 2, 3, 4] rfl))
        · refine pb_aload C dX13_partAt_45 (lv_at hl 0 rfl) ?_
          refine pb_go_x (bc' := 0) (bs' := 0) (pb_runV (rest := []) C hG (met_X10_root l V RR P ro hRO9 hds hVn hFO k _ (by omega) rfl) hok.r (ci := 9) rfl (lw_V q658 q659 q660 q79 q661) ⟨rfl, hdX10_root⟩ rfl hl.1 rfl (Nat.le_of_ble_eq_true rfl) ⟨(Nat.le_of_ble_eq_true rfl), (Nat.le_of_ble_eq_true rfl)⟩ dX13_partAt_47) (by omega) (by omega) ?_
          refine pb_goto C dX13_partAt_50 (tgt := 54) (by decide) ?_
          refine pb_astore_n C dX13_partAt_54 rfl hl (by decide) rfl fun ls hl => ?_
          have hl : lv_has ls 6 [(3, .ref ((nV V (ro k)))), (5, .ref ((nV V k))), (1, .int (iZ (x))), (2, .int (iZ (y))), (4, .ref (it))] := hl
          refine pb_goto C dX13_partAt_55 (tgt := 13) (by decide) ?_
          exact pb_V.mono (by omega) (by omega) (ih13 _ (by omega) (k + 1) it (some (nV V (ro k))) H_ rfl hG (by omega) (by omega) (by rw [paK, if_pos c42_]; rfl) hI hFF ls (lv_sub hl [0, 2, 3, 4] rfl))
    | some i9 =>
      have hl : lv_has ls 6 [(3, .ref (i9)), (1, .int (iZ (x))), (2, .int (iZ (y))), (4, .ref (it))] := hl
      refine pb_aload C dX13_partAt_13 (lv_at hl 3 rfl) ?_
      refine pb_go_x (bc' := 0) (bs' := 0) (pb_runF (n := 0) (rest := []) C hG (x := ⟨"java/util/Iterator", "hasNext", "()Z"⟩) (met_J15_hasNext l it t k _ V hI (hLr.kept hFF) (by omega)) hIo (ci := 16) rfl (by decide) q651 q552 q554 q76 q556 (by decide +kernel) rfl hl.1 rfl (Nat.le_of_ble_eq_true rfl) ⟨(Nat.le_of_ble_eq_true rfl), (Nat.le_of_ble_eq_true rfl)⟩ dX13_partAt_15) (by omega) (by omega) ?_
      refine pb_ifB_eq C dX13_partAt_20 (tgt := 58) (by decide) (fun c20_ => ?_) (fun c20_ => ?_)
      · have c20_ := of_decide_eq_false c20_
        refine pb_aload_n C dX13_partAt_58 rfl (lv_at hl 0 rfl) ?_
        exact pb_aret C (Or.inl ⟨_, rfl⟩) dX13_partAt_59 (Or.inr ⟨_, rfl⟩) (⟨_, rfl, by rw [show RR.length = k from by omega, ← ho]; rfl, hFF⟩)
      · have c20_ := of_decide_eq_true c20_
        refine pb_aload C dX13_partAt_23 (lv_at hl 3 rfl) ?_
        refine pb_go_r (bc' := 0) (bs' := 0) (pb_runF (n := 0) (rest := []) C hG (x := ⟨"java/util/Iterator", "next", "()Ljava/lang/Object;"⟩) (met_J15_next l it t k _ V hI (hLr.kept hFF) (by omega) (fun h9 => absurd (show it < H0.size from h9) (by omega)) (by omega)) hIo (ci := 16) rfl (by decide) q653 q561 q563 q76 q565 (by decide +kernel) rfl hl.1 rfl (Nat.le_of_ble_eq_true rfl) ⟨(Nat.le_of_ble_eq_true rfl), (Nat.le_of_ble_eq_true rfl)⟩ dX13_partAt_25) (by omega) (by omega) (fun b_ H_ hp_ => ?_)
        obtain ⟨rfl, hI, hF1⟩ := hp_
        have hG := hG.kept (hF1.mono (fun q _ (hq : q < w.2.2.2) => show q ≠ _ from by omega))
        have hFF := hFF.tr (hF1.mono (fun q _ (hq : q < H0.size) => show q ≠ _ from by omega))
        have hRO9 : RO w H_ V RR P := fun i hi => ⟨(hRO i hi).1.kept (hFF.2 _ (hRO i hi).1.lt (hRO i hi).1.lt), (hRO i hi).2⟩
        obtain ⟨hok, hrk⟩ := hRO9 k (by omega)
        refine pb_cast C hok.r (ci := 9) rfl q621 dX13_partAt_30 ?_
        refine pb_astore C dX13_partAt_33 hl (by decide) rfl fun ls hl => ?_
        have hl : lv_has ls 6 [(5, .ref ((nV V k))), (3, .ref (i9)), (1, .int (iZ (x))), (2, .int (iZ (y))), (4, .ref (it))] := hl
        refine pb_aload C dX13_partAt_35 (lv_at hl 0 rfl) ?_
        refine pb_iload_n C dX13_partAt_37 rfl (lv_at hl 2 rfl) ?_
        refine pb_iload_n C dX13_partAt_38 rfl (lv_at hl 3 rfl) ?_
        refine pb_go_x (bc' := 0) (bs' := 0) (pb_runV (rest := []) C hG (met_X10_contains l (nV V k) _ (rc RR k) hok.r hrk x y hx hy) hok.r (ci := 9) rfl (lw_V q1077 q1078 q1079 q79 q1080) ⟨rfl, hdX10_contains⟩ rfl hl.1 rfl (Nat.le_of_ble_eq_true rfl) ⟨(Nat.le_of_ble_eq_true rfl), (Nat.le_of_ble_eq_true rfl)⟩ dX13_partAt_39) (by omega) (by omega) ?_
        refine pb_ifB_eq C dX13_partAt_42 (tgt := 53) (by decide) (fun c42_ => ?_) (fun c42_ => ?_)
        · refine pb_aload_n C dX13_partAt_53 rfl (lv_at hl 1 rfl) ?_
          refine pb_astore_n C dX13_partAt_54 rfl hl (by decide) rfl fun ls hl => ?_
          have hl : lv_has ls 6 [(3, .ref (i9)), (5, .ref ((nV V k))), (1, .int (iZ (x))), (2, .int (iZ (y))), (4, .ref (it))] := hl
          refine pb_goto C dX13_partAt_55 (tgt := 13) (by decide) ?_
          exact pb_V.mono (by omega) (by omega) (ih13 _ (by omega) (k + 1) it (some i9) H_ rfl hG (by omega) (by omega) (by rw [paK, if_neg (by rw [c42_]; exact Bool.false_ne_true)]; exact ho) hI hFF ls (lv_sub hl [0, 2, 3, 4] rfl))
        · refine pb_aload C dX13_partAt_45 (lv_at hl 0 rfl) ?_
          refine pb_go_x (bc' := 0) (bs' := 0) (pb_runV (rest := []) C hG (met_X10_root l V RR P ro hRO9 hds hVn hFO k _ (by omega) rfl) hok.r (ci := 9) rfl (lw_V q658 q659 q660 q79 q661) ⟨rfl, hdX10_root⟩ rfl hl.1 rfl (Nat.le_of_ble_eq_true rfl) ⟨(Nat.le_of_ble_eq_true rfl), (Nat.le_of_ble_eq_true rfl)⟩ dX13_partAt_47) (by omega) (by omega) ?_
          refine pb_goto C dX13_partAt_50 (tgt := 54) (by decide) ?_
          refine pb_astore_n C dX13_partAt_54 rfl hl (by decide) rfl fun ls hl => ?_
          have hl : lv_has ls 6 [(3, .ref ((nV V (ro k)))), (5, .ref ((nV V k))), (1, .int (iZ (x))), (2, .int (iZ (y))), (4, .ref (it))] := hl
          refine pb_goto C dX13_partAt_55 (tgt := 13) (by decide) ?_
          exact pb_V.mono (by omega) (by omega) (ih13 _ (by omega) (k + 1) it (some (nV V (ro k))) H_ rfl hG (by omega) (by omega) (by rw [paK, if_pos c42_]; rfl) hI hFF ls (lv_sub hl [0, 2, 3, 4] rfl))
  refine pb_anull C dX13_partAt_0 ?_
  refine pb_astore_nN C dX13_partAt_1 rfl hl (by decide) rfl fun ls hl => ?_
  have hl : lv_has ls 6 [(3, .null), (0, .ref (c)), (1, .int (iZ (x))), (2, .int (iZ (y)))] := hl
  refine pb_aload_n C dX13_partAt_2 rfl (lv_at hl 1 rfl) ?_
  refine pb_get C in_X13 hO (ci := 8) rfl 1 (by decide) q1062 (fun _ h9 => h9) (v := .ref (t)) rfl dX13_partAt_3 ?_
  refine pb_go_r (bc' := 0) (bs' := 0) (pb_runF (n := 0) (rest := []) C hG (x := ⟨"java/util/List", "iterator", "()Ljava/util/Iterator;"⟩) (met_J2_iterator l t _ V hLr) hLo (ci := 15) rfl (by decide) q649 q523 q525 q54 q527 (by decide +kernel) rfl hl.1 rfl (Nat.le_of_ble_eq_true rfl) ⟨(Nat.le_of_ble_eq_true rfl), (Nat.le_of_ble_eq_true rfl)⟩ dX13_partAt_6) (by omega) (by omega) (fun it H_ hp_ => ?_)
  obtain ⟨hit, hI, hF1⟩ := hp_
  have hG := hG.kept (hF1.mono (fun _ _ _ => trivial))
  have hFF := hFF.tr (hF1.mono (fun _ _ _ => trivial))
  refine pb_astore C dX13_partAt_11 hl (by decide) rfl fun ls hl => ?_
  have hl : lv_has ls 6 [(4, .ref (it)), (3, .null), (0, .ref (c)), (1, .int (iZ (x))), (2, .int (iZ (y)))] := hl
  exact pb_V.mono (by omega) (by omega) (L13 _ 0 it none H_ rfl hG (by omega) (by omega) rfl hI hFF ls (lv_sub hl [1, 3, 4, 0] rfl))

set_option maxHeartbeats 1000000 in
theorem met_X13_regionOf {w : pb_W} (l : Launch) {H0 : Heap} (c t : Nat) (v0 v2 : Value) (V : List Nat) (RR : List Rct) (P ro : Nat → Nat) (Pr : Nat → Prop) (hO : pb_R w H0 c 8 [v0, .ref t, v2]) (hLr : Lr w H0 Pr t V) (hVn : V.length = RR.length) (hRO : RO w H0 V RR P) (hds : dsV V) (hFO : FO_ RR.length P ro) (i0 : Nat) (hi0 : i0 < RR.length) (hgE : ∀ i c, sameLow RR i c → 2 * c ≤ 64) : pb_M w l yX13_regionOf cX13_regionOf 7 (some (.object "PolygonBoard$Region")) 8 (2 + 5 * RR.length + rpC RR.length 0) (4 + 122 * RR.length + rpS RR.length 0) [.ref (c), .ref ((nV V i0))] H0 (pb_qr (fun r H1 => ∃ m Y, rgS RR ro i0 m RR.length Y ∧ Rb w H1 H0.size r Y ∧ pb_F (fun q => q < H0.size) H0 H1)) := by
  refine pb_of (by decide +kernel) (Nat.le_of_ble_eq_true rfl) ?_
  intro p_ e_ s_ m_ ar_ bl_ me_ co_ ls C hh hG hl
  have hl : lv_has ls 7 [(0, .ref (c)), (1, .ref ((nV V i0)))] := hl
  have hzs := hG.1
  have hFF : pb_F (fun q => q < H0.size) H0 H0 := pb_F.rf
  have hLr := hLr.below
  obtain ⟨fsL_, hLo⟩ := hLr.o
  have hn9 := hLr.n
  have hO0 := hO
  have hclt := hO.lt
  have hr0 : rpC RR.length ([] : List Bnd).length = rpC RR.length 0 ∧ rpS RR.length ([] : List Bnd).length = rpS RR.length 0 := ⟨rfl, rfl⟩
  have L10 : ∀ (n_ : Nat) (i m r : Nat) (R9 : List Bnd) (H : Heap), RR.length - i = n_ → (pb_G w s_ H) → (i ≤ RR.length) → (rgS RR ro i0 m i R9) → (R9.length ≤ i) → (Rb w H H0.size r R9) → (pb_F (fun q => q < H0.size) H0 H) → ∀ (ls : Array Slot), lv_has ls 7 [(0, .ref (c)), (1, .ref ((nV V i0))), (2, .ref (r)), (3, .int (iZ (((i : Nat) : Int))))] → pb_V w.2.2.2 p_ l e_ (pb_rm 8 (2 + 5 * RR.length + rpC RR.length 0) (4 + 122 * RR.length + rpS RR.length 0)) s_ m_ ar_ bl_ me_ co_ H (5 * (RR.length - i) + rpC RR.length R9.length) (122 * (RR.length - i) + rpS RR.length R9.length) (pb_E w bl_ ar_ s_ (2 + 5 * RR.length + rpC RR.length 0) (4 + 122 * RR.length + rpS RR.length 0) (pb_qr (fun r H1 => ∃ m Y, rgS RR ro i0 m RR.length Y ∧ Rb w H1 H0.size r Y ∧ pb_F (fun q => q < H0.size) H0 H1))) (F0 m_ 10 ls []) := by
    intro n_
    induction n_ using Nat.strongRecOn with
    | _ n_ ih10 =>
    intro i m r R9 H hm_ hG hi hS hlen hRb hFF ls hl
    have hO := hO.kept (hFF.2 _ hO.lt hclt)
    have hp8 : potc 8 = 3 ∧ pot 8 = 112 := ⟨rfl, rfl⟩
    obtain ⟨HB, hHB⟩ : ∃ HB : Heap, HB = H := ⟨_, rfl⟩
    have hFI : pb_F (fun q => q < HB.size) HB H := by rw [hHB]; exact pb_F.rf
    have hzB : H0.size ≤ HB.size := by rw [hHB]; exact hFF.1
    have hRbB : Rb w HB H0.size r R9 := by rw [hHB]; exact hRb
    have L47 : ∀ (n_ : Nat) (f j m9 s : Nat) (H : Heap), RR.length - (f + j) = n_ → (pb_G w s_ H) → (f = i) → (f < RR.length) → (f + j ≤ RR.length) → (sameLow RR f j) → (Sb w H HB.size s (roE RR ro i0 f j) m9) → (pb_F (fun q => q < H0.size) H0 H) → (pb_F (fun q => q < HB.size) HB H) → ∀ (ls : Array Slot), lv_has ls 7 [(0, .ref (c)), (1, .ref ((nV V i0))), (2, .ref (r)), (3, .int (iZ ((((f + j) : Nat) : Int)))), (4, .ref ((nV V f))), (5, .ref (s))] → pb_V w.2.2.2 p_ l e_ (pb_rm 8 (2 + 5 * RR.length + rpC RR.length 0) (4 + 122 * RR.length + rpS RR.length 0)) s_ m_ ar_ bl_ me_ co_ H (potc m9 + 5 * (RR.length - i - 1) + rpC RR.length R9.length) (pot m9 + 122 * (RR.length - i - 1) + rpS RR.length R9.length) (pb_E w bl_ ar_ s_ (2 + 5 * RR.length + rpC RR.length 0) (4 + 122 * RR.length + rpS RR.length 0) (pb_qr (fun r H1 => ∃ m Y, rgS RR ro i0 m RR.length Y ∧ Rb w H1 H0.size r Y ∧ pb_F (fun q => q < H0.size) H0 H1))) (F0 m_ 47 ls []) := by
      intro n_
      induction n_ using Nat.strongRecOn with
      | _ n_ ih47 =>
      intro f j m9 s H hm_ hG hfi hf hfj hsl hSb hFF hFI ls hl
      have hO := hO0.kept (hFF.2 _ hO0.lt hclt)
      obtain ⟨hof, hr_hof⟩ := ROat hRO hFF f (by omega)
      obtain ⟨hofa, hofb, hofc, hofd⟩ := hr_hof
      have htl := roE_len RR ro i0 f j
      refine pb_iload_n C dX13_regionOf_47 rfl (lv_at hl 3 rfl) ?_
      refine pb_aload_n C dX13_regionOf_48 rfl (lv_at hl 0 rfl) ?_
      refine pb_get C in_X13 hO (ci := 8) rfl 1 (by decide) q1062 (fun _ h9 => h9) (v := .ref (t)) rfl dX13_regionOf_49 ?_
      obtain ⟨fsL_, hLo⟩ := (hLr.kept hFF).o
      refine pb_go_x (bc' := potc m9 + 5 * (RR.length - i - 1) + rpC RR.length R9.length) (bs' := pot m9 + 122 * (RR.length - i - 1) + rpS RR.length R9.length) (pb_runF (n := 0) (rest := [.int (iZ ((((f + j) : Nat) : Int)))]) C hG (x := ⟨"java/util/List", "size", "()I"⟩) (met_J2_size l t _ V (hLr.kept hFF)) hLo (ci := 15) rfl (by decide) q1094 q444 q446 q54 q448 (by decide +kernel) rfl hl.1 rfl (Nat.le_of_ble_eq_true rfl) ⟨(Nat.le_of_ble_eq_true rfl), (Nat.le_of_ble_eq_true rfl)⟩ dX13_regionOf_52) (by omega) (by omega) ?_
      refine pb_icmp_ge C dX13_regionOf_57 (x := (((f + j) : Nat) : Int)) (y := ((V.length : Nat) : Int)) (tgt := 137) (by decide) (by omega) (by omega) (fun c57_ => ?_) (fun c57_ => ?_)
      · have hpot := radd_pot (L := R9) (lo := (rc RR f).2.1) (hi := (rc RR f).2.2.2) (E := (roE RR ro i0 f j)) (N := RR.length) (Nat.le_trans (radd_n hlen) (by omega))
        have hRb := hRbB.kept (hFI.mono (fun q h _ => h))
        obtain ⟨fsR_, hRbo⟩ := hRb.o
        refine pb_aload_n C dX13_regionOf_137 rfl (lv_at hl 2 rfl) ?_
        refine pb_aload C dX13_regionOf_138 (lv_at hl 4 rfl) ?_
        refine pb_getN C in_X10 hof.r (ci := 9) rfl 1 (by decide) q630 (fun _ h9 => h9) (v := .int (iZ ((rc RR f).2.1))) rfl dX13_regionOf_140 ?_
        refine pb_aload C dX13_regionOf_143 (lv_at hl 4 rfl) ?_
        refine pb_getN C in_X10 hof.r (ci := 9) rfl 3 (by decide) q634 (fun _ h9 => h9) (v := .int (iZ ((rc RR f).2.2.2))) rfl dX13_regionOf_145 ?_
        refine pb_aload C dX13_regionOf_148 (lv_at hl 5 rfl) ?_
        refine pb_go_v (bc' := potc m9 + 5 * (RR.length - i - 1) + rpC RR.length R9.length - ((radc R9 ((rc RR f).2.1) ((rc RR f).2.2.2) ((roE RR ro i0 f j))))) (bs' := pot m9 + 122 * (RR.length - i - 1) + rpS RR.length R9.length - ((rads R9 ((rc RR f).2.1) ((rc RR f).2.2.2) ((roE RR ro i0 f j))))) (pb_runV (rest := []) C hG (met_X2_add l H0.size r _ R9 ((roE RR ro i0 f j)) ((rc RR f).2.1) ((rc RR f).2.2.2) (by omega) hRb (hSb.hi hzB) (by omega) (by omega) (by omega)) hRbo (ci := 1) rfl (lw_V q1100 q424 q425 q55 q426) ⟨rfl, hdX2_add⟩ rfl hl.1 rfl (Nat.le_of_ble_eq_true rfl) ⟨(Nat.le_of_ble_eq_true rfl), (Nat.le_of_ble_eq_true rfl)⟩ dX13_regionOf_150) (by omega) (by omega) (fun H_ hp_ => ?_)
        obtain ⟨hRb, hFA⟩ := hp_
        have hG := hG.kept (hFA.mono (fun q _ (hq : q < w.2.2.2) => Or.inl (by omega)))
        have hFF := hFF.tr (hFA.mono (fun q _ hq => Or.inl hq))
        refine pb_goto C dX13_regionOf_153 (tgt := 10) (by decide) ?_
        exact pb_V.mono (by omega) (by omega) (ih10 _ (by omega) (f + j) (m + 1) r (radd R9 (rc RR f).2.1 (rc RR f).2.2.2 (roE RR ro i0 f j)) H_ rfl hG (by omega) ⟨f, j, R9, hfi ▸ hS, by omega, by omega, rfl, hsl, by omega, rfl⟩ (Nat.le_trans (radd_n hlen) (by omega)) hRb hFF ls (lv_sub hl [0, 1, 2, 3] rfl))
      · refine pb_aload_n C dX13_regionOf_60 rfl (lv_at hl 0 rfl) ?_
        refine pb_get C in_X13 hO (ci := 8) rfl 1 (by decide) q1062 (fun _ h9 => h9) (v := .ref (t)) rfl dX13_regionOf_61 ?_
        refine pb_iload_n C dX13_regionOf_64 rfl (lv_at hl 3 rfl) ?_
        obtain ⟨fsL_, hLo⟩ := (hLr.kept hFF).o
        refine pb_go_x (bc' := potc m9 + 5 * (RR.length - i - 1) + rpC RR.length R9.length) (bs' := pot m9 + 122 * (RR.length - i - 1) + rpS RR.length R9.length) (pb_runF (n := 1) (rest := []) C hG (x := ⟨"java/util/List", "get", "(I)Ljava/lang/Object;"⟩) (met_J2_get l t _ V (hLr.kept hFF) (f + j) (by omega)) hLo (ci := 15) rfl (by decide) q1096 q360 q362 q54 q364 (by decide +kernel) rfl hl.1 rfl (Nat.le_of_ble_eq_true rfl) ⟨(Nat.le_of_ble_eq_true rfl), (Nat.le_of_ble_eq_true rfl)⟩ dX13_regionOf_65) (by omega) (by omega) ?_
        obtain ⟨hoj, hr_hoj⟩ := ROat hRO hFF (f + j) (by omega)
        obtain ⟨hoja, hojb, hojc, hojd⟩ := hr_hoj
        refine pb_cast C hoj.r (ci := 9) rfl q621 dX13_regionOf_70 ?_
        refine pb_getN C in_X10 hoj.r (ci := 9) rfl 1 (by decide) q630 (fun _ h9 => h9) (v := .int (iZ ((rc RR (f + j)).2.1))) rfl dX13_regionOf_73 ?_
        refine pb_aload C dX13_regionOf_76 (lv_at hl 4 rfl) ?_
        refine pb_getN C in_X10 hof.r (ci := 9) rfl 1 (by decide) q630 (fun _ h9 => h9) (v := .int (iZ ((rc RR f).2.1))) rfl dX13_regionOf_78 ?_
        refine pb_icmp_ne C dX13_regionOf_81 (x := (rc RR (f + j)).2.1) (y := (rc RR f).2.1) (tgt := 137) (by decide) (by omega) (by omega) (fun c81_ => ?_) (fun c81_ => ?_)
        · have hj0 : 0 < j := Nat.pos_of_ne_zero (fun h9 => by subst h9; exact c81_ rfl)
          have hpot := radd_pot (L := R9) (lo := (rc RR f).2.1) (hi := (rc RR f).2.2.2) (E := (roE RR ro i0 f j)) (N := RR.length) (Nat.le_trans (radd_n hlen) (by omega))
          have hRb := hRbB.kept (hFI.mono (fun q h _ => h))
          obtain ⟨fsR_, hRbo⟩ := hRb.o
          refine pb_aload_n C dX13_regionOf_137 rfl (lv_at hl 2 rfl) ?_
          refine pb_aload C dX13_regionOf_138 (lv_at hl 4 rfl) ?_
          refine pb_getN C in_X10 hof.r (ci := 9) rfl 1 (by decide) q630 (fun _ h9 => h9) (v := .int (iZ ((rc RR f).2.1))) rfl dX13_regionOf_140 ?_
          refine pb_aload C dX13_regionOf_143 (lv_at hl 4 rfl) ?_
          refine pb_getN C in_X10 hof.r (ci := 9) rfl 3 (by decide) q634 (fun _ h9 => h9) (v := .int (iZ ((rc RR f).2.2.2))) rfl dX13_regionOf_145 ?_
          refine pb_aload C dX13_regionOf_148 (lv_at hl 5 rfl) ?_
          refine pb_go_v (bc' := potc m9 + 5 * (RR.length - i - 1) + rpC RR.length R9.length - ((radc R9 ((rc RR f).2.1) ((rc RR f).2.2.2) ((roE RR ro i0 f j))))) (bs' := pot m9 + 122 * (RR.length - i - 1) + rpS RR.length R9.length - ((rads R9 ((rc RR f).2.1) ((rc RR f).2.2.2) ((roE RR ro i0 f j))))) (pb_runV (rest := []) C hG (met_X2_add l H0.size r _ R9 ((roE RR ro i0 f j)) ((rc RR f).2.1) ((rc RR f).2.2.2) (by omega) hRb (hSb.hi hzB) (by omega) (by omega) (by omega)) hRbo (ci := 1) rfl (lw_V q1100 q424 q425 q55 q426) ⟨rfl, hdX2_add⟩ rfl hl.1 rfl (Nat.le_of_ble_eq_true rfl) ⟨(Nat.le_of_ble_eq_true rfl), (Nat.le_of_ble_eq_true rfl)⟩ dX13_regionOf_150) (by omega) (by omega) (fun H_ hp_ => ?_)
          obtain ⟨hRb, hFA⟩ := hp_
          have hG := hG.kept (hFA.mono (fun q _ (hq : q < w.2.2.2) => Or.inl (by omega)))
          have hFF := hFF.tr (hFA.mono (fun q _ hq => Or.inl hq))
          refine pb_goto C dX13_regionOf_153 (tgt := 10) (by decide) ?_
          exact pb_V.mono (by omega) (by omega) (ih10 _ (by omega) (f + j) (m + 1) r (radd R9 (rc RR f).2.1 (rc RR f).2.2.2 (roE RR ro i0 f j)) H_ rfl hG (by omega) ⟨f, j, R9, hfi ▸ hS, by omega, by omega, rfl, hsl, by omega, rfl⟩ (Nat.le_trans (radd_n hlen) (by omega)) hRb hFF ls (lv_sub hl [0, 1, 2, 3] rfl))
        · refine pb_aload_n C dX13_regionOf_84 rfl (lv_at hl 0 rfl) ?_
          refine pb_get C in_X13 hO (ci := 8) rfl 1 (by decide) q1062 (fun _ h9 => h9) (v := .ref (t)) rfl dX13_regionOf_85 ?_
          refine pb_iload_n C dX13_regionOf_88 rfl (lv_at hl 3 rfl) ?_
          obtain ⟨fsL_, hLo⟩ := (hLr.kept hFF).o
          refine pb_go_x (bc' := potc m9 + 5 * (RR.length - i - 1) + rpC RR.length R9.length) (bs' := pot m9 + 122 * (RR.length - i - 1) + rpS RR.length R9.length) (pb_runF (n := 1) (rest := []) C hG (x := ⟨"java/util/List", "get", "(I)Ljava/lang/Object;"⟩) (met_J2_get l t _ V (hLr.kept hFF) (f + j) (by omega)) hLo (ci := 15) rfl (by decide) q1096 q360 q362 q54 q364 (by decide +kernel) rfl hl.1 rfl (Nat.le_of_ble_eq_true rfl) ⟨(Nat.le_of_ble_eq_true rfl), (Nat.le_of_ble_eq_true rfl)⟩ dX13_regionOf_89) (by omega) (by omega) ?_
          obtain ⟨hoj, hr_hoj⟩ := ROat hRO hFF (f + j) (by omega)
          obtain ⟨hoja, hojb, hojc, hojd⟩ := hr_hoj
          refine pb_cast C hoj.r (ci := 9) rfl q621 dX13_regionOf_94 ?_
          refine pb_astore C dX13_regionOf_97 hl (by decide) rfl fun ls hl => ?_
          have hl : lv_has ls 7 [(6, .ref ((nV V (f + j)))), (0, .ref (c)), (1, .ref ((nV V i0))), (2, .ref (r)), (3, .int (iZ ((((f + j) : Nat) : Int)))), (4, .ref ((nV V f))), (5, .ref (s))] := hl
          refine pb_aload C dX13_regionOf_99 (lv_at hl 6 rfl) ?_
          refine pb_aload C dX13_regionOf_101 (lv_at hl 0 rfl) ?_
          refine pb_getN C in_X10 hoj.r (ci := 9) rfl 0 (by decide) q628 (fun _ h9 => h9) (v := .int (iZ ((rc RR (f + j)).1))) rfl dX13_regionOf_103 ?_
          refine pb_aload C dX13_regionOf_106 (lv_at hl 0 rfl) ?_
          refine pb_go_x (bc' := potc m9 + 5 * (RR.length - i - 1) + rpC RR.length R9.length) (bs' := pot m9 + 122 * (RR.length - i - 1) + rpS RR.length R9.length) (pb_runV (rest := [.int (iZ ((rc RR (f + j)).1)), .ref (s)]) C hG (met_X10_root l V RR P ro (ROall hRO hFF) hds hVn hFO (f + j) _ (by omega) rfl) hoj.r (ci := 9) rfl (lw_V q658 q659 q660 q79 q661) ⟨rfl, hdX10_root⟩ rfl hl.1 rfl (Nat.le_of_ble_eq_true rfl) ⟨(Nat.le_of_ble_eq_true rfl), (Nat.le_of_ble_eq_true rfl)⟩ dX13_regionOf_108) (by omega) (by omega) ?_
          refine pb_aload_n C dX13_regionOf_111 rfl (lv_at hl 2 rfl) ?_
          refine pb_acmp_ne C dX13_regionOf_112 (tgt := 123) (by decide) (fun c112_ => ?_) (fun c112_ => ?_)
          · have hro : ro (f + j) ≠ i0 := fun e9 => c112_ (by rw [e9])
            have hL1 : (spadd (roE RR ro i0 f j) (rc RR (f + j)).1 (rc RR (f + j)).1).length ≤ 64 := Nat.le_trans (spadd_le _ _ _) (by have := hgE f (j + 1) (fun j9 hj9 => if h9 : j9 = j then by subst h9; exact ⟨by omega, by omega⟩ else hsl j9 (by omega)); omega)
            have hpot := sp_pot (E := (roE RR ro i0 f j)) (l := (rc RR (f + j)).1) (r := (rc RR (f + j)).1) hSb.m8 hL1
            refine pb_aload C dX13_regionOf_123 (lv_at hl 0 rfl) ?_
            refine pb_getN C in_X10 hoj.r (ci := 9) rfl 0 (by decide) q628 (fun _ h9 => h9) (v := .int (iZ ((rc RR (f + j)).1))) rfl dX13_regionOf_125 ?_
            obtain ⟨fs_, hR_⟩ := hSb.o
            have hz9 := hFF.1
            refine pb_go_v (bc' := potc m9 + 5 * (RR.length - i - 1) + rpC RR.length R9.length - ((spc ((roE RR ro i0 f j)) ((rc RR (f + j)).1) ((rc RR (f + j)).1) m9))) (bs' := pot m9 + 122 * (RR.length - i - 1) + rpS RR.length R9.length - ((sps ((roE RR ro i0 f j)) ((rc RR (f + j)).1) ((rc RR (f + j)).1) m9))) (pb_runV (rest := []) C hG (met_X4_add l HB.size s m9 ((roE RR ro i0 f j)) (by omega) hSb ((rc RR (f + j)).1) ((rc RR (f + j)).1) (by omega) (by omega) hL1) hR_ (ci := 3) rfl (lw_V q1099 q419 q420 q70 q421) ⟨rfl, hdX4_add⟩ rfl hl.1 rfl (Nat.le_of_ble_eq_true rfl) ⟨(Nat.le_of_ble_eq_true rfl), (Nat.le_of_ble_eq_true rfl)⟩ dX13_regionOf_128) (by omega) (by omega) (fun H_ hp_ => ?_)
            obtain ⟨hSb, hF1⟩ := hp_
            have hG := hG.kept (hF1.mono (fun q _ (hq : q < w.2.2.2) => show q < _ from by omega))
            have hFF := hFF.tr (hF1.mono (fun q _ (hq : q < H0.size) => show q < _ from by omega))
            have hFI := hFI.tr hF1
            refine pb_iinc C dX13_regionOf_131 hl (j := 4) (x := ((((f + j) : Nat) : Int))) rfl (by decide) rfl fun ls hl => ?_
            have hl : lv_has ls 7 [(3, .int (iZ (((((f + j) + 1) : Nat) : Int)))), (6, .ref ((nV V (f + j)))), (0, .ref (c)), (1, .ref ((nV V i0))), (2, .ref (r)), (4, .ref ((nV V f))), (5, .ref (s))] := hl
            rw [show ((((f + j) + 1) : Nat) : Int) = (((f + (j + 1)) : Nat) : Int) from by omega] at hl
            refine pb_goto C dX13_regionOf_134 (tgt := 47) (by decide) ?_
            exact pb_V.mono (by omega) (by omega) (ih47 _ (by omega) f (j + 1) (spm (roE RR ro i0 f j) (rc RR (f + j)).1 (rc RR (f + j)).1 m9) s H_ rfl hG hfi (by omega) (by omega) (fun j9 hj9 => if h9 : j9 = j then by subst h9; exact ⟨by omega, by omega⟩ else hsl j9 (by omega)) (by rw [roE, if_neg hro]; exact hSb) hFF hFI ls (lv_sub hl [2, 3, 4, 0, 5, 6] rfl))
          · have hro : ro (f + j) = i0 := hds.inj (by have := (hFO.2 (f + j) (by omega)).2.2.2.1; omega) (by omega) c112_
            have hL1 : (spadd (roE RR ro i0 f j) (rc RR (f + j)).1 (rc RR (f + j)).2.2.1).length ≤ 64 := Nat.le_trans (spadd_le _ _ _) (by have := hgE f (j + 1) (fun j9 hj9 => if h9 : j9 = j then by subst h9; exact ⟨by omega, by omega⟩ else hsl j9 (by omega)); omega)
            have hpot := sp_pot (E := (roE RR ro i0 f j)) (l := (rc RR (f + j)).1) (r := (rc RR (f + j)).2.2.1) hSb.m8 hL1
            refine pb_aload C dX13_regionOf_115 (lv_at hl 0 rfl) ?_
            refine pb_getN C in_X10 hoj.r (ci := 9) rfl 2 (by decide) q632 (fun _ h9 => h9) (v := .int (iZ ((rc RR (f + j)).2.2.1))) rfl dX13_regionOf_117 ?_
            refine pb_goto C dX13_regionOf_120 (tgt := 128) (by decide) ?_
            obtain ⟨fs_, hR_⟩ := hSb.o
            have hz9 := hFF.1
            refine pb_go_v (bc' := potc m9 + 5 * (RR.length - i - 1) + rpC RR.length R9.length - ((spc ((roE RR ro i0 f j)) ((rc RR (f + j)).1) ((rc RR (f + j)).2.2.1) m9))) (bs' := pot m9 + 122 * (RR.length - i - 1) + rpS RR.length R9.length - ((sps ((roE RR ro i0 f j)) ((rc RR (f + j)).1) ((rc RR (f + j)).2.2.1) m9))) (pb_runV (rest := []) C hG (met_X4_add l HB.size s m9 ((roE RR ro i0 f j)) (by omega) hSb ((rc RR (f + j)).1) ((rc RR (f + j)).2.2.1) (by omega) (by omega) hL1) hR_ (ci := 3) rfl (lw_V q1099 q419 q420 q70 q421) ⟨rfl, hdX4_add⟩ rfl hl.1 rfl (Nat.le_of_ble_eq_true rfl) ⟨(Nat.le_of_ble_eq_true rfl), (Nat.le_of_ble_eq_true rfl)⟩ dX13_regionOf_128) (by omega) (by omega) (fun H_ hp_ => ?_)
            obtain ⟨hSb, hF1⟩ := hp_
            have hG := hG.kept (hF1.mono (fun q _ (hq : q < w.2.2.2) => show q < _ from by omega))
            have hFF := hFF.tr (hF1.mono (fun q _ (hq : q < H0.size) => show q < _ from by omega))
            have hFI := hFI.tr hF1
            refine pb_iinc C dX13_regionOf_131 hl (j := 4) (x := ((((f + j) : Nat) : Int))) rfl (by decide) rfl fun ls hl => ?_
            have hl : lv_has ls 7 [(3, .int (iZ (((((f + j) + 1) : Nat) : Int)))), (6, .ref ((nV V (f + j)))), (0, .ref (c)), (1, .ref ((nV V i0))), (2, .ref (r)), (4, .ref ((nV V f))), (5, .ref (s))] := hl
            rw [show ((((f + j) + 1) : Nat) : Int) = (((f + (j + 1)) : Nat) : Int) from by omega] at hl
            refine pb_goto C dX13_regionOf_134 (tgt := 47) (by decide) ?_
            exact pb_V.mono (by omega) (by omega) (ih47 _ (by omega) f (j + 1) (spm (roE RR ro i0 f j) (rc RR (f + j)).1 (rc RR (f + j)).2.2.1 m9) s H_ rfl hG hfi (by omega) (by omega) (fun j9 hj9 => if h9 : j9 = j then by subst h9; exact ⟨by omega, by omega⟩ else hsl j9 (by omega)) (by rw [roE, if_pos hro]; exact hSb) hFF hFI ls (lv_sub hl [2, 3, 4, 0, 5, 6] rfl))
    refine pb_iload_n C dX13_regionOf_10 rfl (lv_at hl 3 rfl) ?_
    refine pb_aload_n C dX13_regionOf_11 rfl (lv_at hl 0 rfl) ?_
    refine pb_get C in_X13 hO (ci := 8) rfl 1 (by decide) q1062 (fun _ h9 => h9) (v := .ref (t)) rfl dX13_regionOf_12 ?_
    obtain ⟨fsL_, hLo⟩ := (hLr.kept hFF).o
    refine pb_go_x (bc' := 5 * (RR.length - i) + rpC RR.length R9.length) (bs' := 122 * (RR.length - i) + rpS RR.length R9.length) (pb_runF (n := 0) (rest := [.int (iZ (((i : Nat) : Int)))]) C hG (x := ⟨"java/util/List", "size", "()I"⟩) (met_J2_size l t _ V (hLr.kept hFF)) hLo (ci := 15) rfl (by decide) q1094 q444 q446 q54 q448 (by decide +kernel) rfl hl.1 rfl (Nat.le_of_ble_eq_true rfl) ⟨(Nat.le_of_ble_eq_true rfl), (Nat.le_of_ble_eq_true rfl)⟩ dX13_regionOf_15) (by omega) (by omega) ?_
    refine pb_icmp_ge C dX13_regionOf_20 (x := ((i : Nat) : Int)) (y := ((V.length : Nat) : Int)) (tgt := 156) (by decide) (by omega) (by omega) (fun c20_ => ?_) (fun c20_ => ?_)
    · refine pb_aload_n C dX13_regionOf_156 rfl (lv_at hl 2 rfl) ?_
      exact pb_aret C (Or.inl ⟨_, rfl⟩) dX13_regionOf_157 (Or.inr ⟨_, rfl⟩) (⟨_, rfl, m, _, by rw [show RR.length = i from by omega]; exact hS, hRb, hFF⟩)
    · refine pb_aload_n C dX13_regionOf_23 rfl (lv_at hl 0 rfl) ?_
      refine pb_get C in_X13 hO (ci := 8) rfl 1 (by decide) q1062 (fun _ h9 => h9) (v := .ref (t)) rfl dX13_regionOf_24 ?_
      refine pb_iload_n C dX13_regionOf_27 rfl (lv_at hl 3 rfl) ?_
      obtain ⟨fsL_, hLo⟩ := (hLr.kept hFF).o
      refine pb_go_x (bc' := 5 * (RR.length - i) + rpC RR.length R9.length) (bs' := 122 * (RR.length - i) + rpS RR.length R9.length) (pb_runF (n := 1) (rest := []) C hG (x := ⟨"java/util/List", "get", "(I)Ljava/lang/Object;"⟩) (met_J2_get l t _ V (hLr.kept hFF) i (by omega)) hLo (ci := 15) rfl (by decide) q1096 q360 q362 q54 q364 (by decide +kernel) rfl hl.1 rfl (Nat.le_of_ble_eq_true rfl) ⟨(Nat.le_of_ble_eq_true rfl), (Nat.le_of_ble_eq_true rfl)⟩ dX13_regionOf_28) (by omega) (by omega) ?_
      obtain ⟨hoi, hr_hoi⟩ := ROat hRO hFF i (by omega)
      obtain ⟨hoia, hoib, hoic, hoid⟩ := hr_hoi
      refine pb_cast C hoi.r (ci := 9) rfl q621 dX13_regionOf_33 ?_
      refine pb_astore C dX13_regionOf_36 hl (by decide) rfl fun ls hl => ?_
      have hl : lv_has ls 7 [(4, .ref ((nV V i))), (0, .ref (c)), (1, .ref ((nV V i0))), (2, .ref (r)), (3, .int (iZ (((i : Nat) : Int))))] := hl
      have hz6 := hFI.1
      refine pb_newE C in_X4 tyX4 tyX4_ok (ci := 3) rfl q1097 q405 q70 (fs := [.null, .int (iZ (0))]) (by decide) (bc' := 5 * (RR.length - i) + rpC RR.length R9.length - 1) (bs' := 122 * (RR.length - i) + rpS RR.length R9.length - 2) (by omega) (by omega) dX13_regionOf_38 fun a1_ H1_ ha_ hn_ hN1_ => ?_
      have hs1_ : H1_.size = H.size + 1 := hn_.1
      have hG := hG.kept (hn_.f.mono (fun _ _ _ => trivial))
      have hO := hO.kept (hn_.2 _ hO.lt)
      have hoi.r := hoi.r.kept (hn_.2 _ hoi.r.lt)
      have hz7 := hFF.1
      have hFF := hFF.tr (hn_.f.mono (fun _ _ _ => trivial))
      have hFI := hFI.tr (hn_.f.mono (fun _ _ _ => trivial))
      have a1__e : a1_ = H.size := ha_
      refine pb_dup C dX13_regionOf_41 rfl ?_
      have hz9 := hFF.1
      have hz8 := hFI.1
      refine pb_go_v (bc' := 5 * (RR.length - i) + rpC RR.length R9.length - 1 - 1) (bs' := 122 * (RR.length - i) + rpS RR.length R9.length - 2 - 8) (pb_runIN (rest := [.ref (a1_)]) C hG (met_X4_init l HB.size a1_ (by omega) (by omega) hN1_) q1098 q407 q70 q408 rfl hdX4_init rfl hl.1 rfl (Nat.le_of_ble_eq_true rfl) ⟨(Nat.le_of_ble_eq_true rfl), (Nat.le_of_ble_eq_true rfl)⟩ dX13_regionOf_42) (by omega) (by omega) (fun H_ hp_ => ?_)
      obtain ⟨hSb, hF1⟩ := hp_
      have hG := hG.kept (hF1.mono (fun q _ (hq : q < w.2.2.2) => show q ≠ _ from by omega))
      have hO := hO.kept (hF1.2 _ hO.lt (show c ≠ _ from by omega))
      have hFF := hFF.tr (hF1.mono (fun q _ (hq : q < H0.size) => show q ≠ _ from by omega))
      have hFI := hFI.tr (hF1.mono (fun q _ (hq : q < HB.size) => show q ≠ _ from by omega))
      refine pb_astore C dX13_regionOf_45 hl (by decide) rfl fun ls hl => ?_
      have hl : lv_has ls 7 [(5, .ref (a1_)), (4, .ref ((nV V i))), (0, .ref (c)), (1, .ref ((nV V i0))), (2, .ref (r)), (3, .int (iZ (((i : Nat) : Int))))] := hl
      exact pb_V.mono (by omega) (by omega) (L47 _ i 0 8 a1_ H_ rfl hG rfl (by omega) (by omega) (fun j hj => absurd hj (Nat.not_lt_zero _)) hSb hFF hFI ls (lv_sub hl [2, 3, 4, 5, 1, 0] rfl))
  refine pb_newE C in_X2 tyX2 tyX2_ok (ci := 1) rfl q1091 q131 q55 (fs := [.null]) (by decide) (bc' := 2 + 5 * RR.length + rpC RR.length 0 - 1) (bs' := 4 + 122 * RR.length + rpS RR.length 0 - 1) (by omega) (by omega) dX13_regionOf_0 fun a2_ H2_ ha_ hn_ hN2_ => ?_
  have hs2_ : H2_.size = H0.size + 1 := hn_.1
  have hG := hG.kept (hn_.f.mono (fun _ _ _ => trivial))
  have hO := hO.kept (hn_.2 _ hO.lt)
  have hz7 := hFF.1
  have hFF := hFF.tr (hn_.f.mono (fun _ _ _ => trivial))
  obtain rfl : a2_ = H0.size := by omega
  skip
  have hN := hN2_
  refine pb_dup C dX13_regionOf_3 rfl ?_
  have hz9 := hFF.1
  refine pb_go_v (bc' := 2 + 5 * RR.length + rpC RR.length 0 - 1 - 1) (bs' := 4 + 122 * RR.length + rpS RR.length 0 - 1 - 3) (pb_runIN (rest := [.ref (H0.size)]) C hG (met_X2_init l H0.size H0.size (by omega) (by omega) hN) q1092 q133 q55 q134 rfl hdX2_init rfl hl.1 rfl (Nat.le_of_ble_eq_true rfl) ⟨(Nat.le_of_ble_eq_true rfl), (Nat.le_of_ble_eq_true rfl)⟩ dX13_regionOf_4) (by omega) (by omega) (fun H_ hp_ => ?_)
  obtain ⟨hRb, hF1⟩ := hp_
  have hG := hG.kept (hF1.mono (fun q _ (hq : q < w.2.2.2) => Or.inl (by omega)))
  have hFF := hFF.tr (hF1.mono (fun q _ hq => Or.inl hq))
  have hO := hO.kept (hF1.2 _ hO.lt (Or.inl hclt))
  have hp8 : potc 8 = 3 ∧ pot 8 = 112 := ⟨rfl, rfl⟩
  refine pb_astore_n C dX13_regionOf_7 rfl hl (by decide) rfl fun ls hl => ?_
  have hl : lv_has ls 7 [(2, .ref (H0.size)), (0, .ref (c)), (1, .ref ((nV V i0)))] := hl
  refine pb_ic C dX13_regionOf_8 ?_
  refine pb_istore_n C dX13_regionOf_9 rfl hl (by decide) rfl fun ls hl => ?_
  have hl : lv_has ls 7 [(3, .int (iZ (0))), (2, .ref (H0.size)), (0, .ref (c)), (1, .ref ((nV V i0)))] := hl
  exact pb_V.mono (by omega) (by omega) (L10 _ 0 0 H0.size ([]) H_ rfl hG (by omega) ⟨rfl, rfl⟩ (Nat.zero_le _) hRb hFF ls (lv_sub hl [2, 3, 1, 0] rfl))

