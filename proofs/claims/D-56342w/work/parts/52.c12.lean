set_option maxRecDepth 100000
set_option maxHeartbeats 1000000 in
theorem met_X2_grown {w : pb_W} (l : Launch) {H0 : Heap} (a : Nat) (P : Nat → Prop) (L : List Bnd) (hR : Rg w H0 P a L) (d : Int) (hd : -50 ≤ d ∧ d ≤ 50) (hb9 : ∀ j i, -900 ≤ eE (bE L j) i ∧ eE (bE L j) i ≤ 900) (hh9 : ∀ j, (-900 ≤ (bd L j).1 ∧ (bd L j).1 ≤ 900) ∧ (-900 ≤ (bd L j).2.1 ∧ (bd L j).2.1 ≤ 900)) (hNB : L.length ≤ 26) (hT : growT L d ≤ 200) (hlw : -800 ≤ lowF L ∧ lowF L ≤ 800) (hE : ∀ y k, k < (wdnF L d L.length).length → ∀ n, n ≤ ((sarF (wdnF L d L.length) y d k)).length + ((bE (wdnF L d L.length) k)).length → (cmS 0 ((sarF (wdnF L d L.length) y d k)) ((bE (wdnF L d L.length) k)) n).2.2.2.length ≤ 64) : pb_M w l yX2_grown cX2_grown 5 (some (.object "PolygonBoard$Region")) 8 (135 + rpC 26 0 + 131 * growT L d + rpC (growT L d) 0) (3188 + rpS 26 0 + 3176 * growT L d + rpS (growT L d) 0) [.ref (a), .int (iZ (d))] H0 (pb_qr (fun r H1 => Rb w H1 H0.size r (groR L d) ∧ pb_F (fun q => q < H0.size) H0 H1)) := by
  refine pb_of (by decide +kernel) (Nat.le_of_ble_eq_true rfl) ?_
  intro p_ e_ s_ m_ ar_ bl_ me_ co_ ls C hh hG hl
  have hl : lv_has ls 5 [(0, .ref (a)), (1, .int (iZ (d)))] := hl
  have hzs := hG.1
  have hFF : pb_F (fun q => q < H0.size) H0 H0 := pb_F.rf
  have hR := hR.below
  obtain ⟨t, V, hPa, hO, hLr, hVn, hBd⟩ := id hR
  obtain ⟨fsL_, hLo⟩ := hLr.o
  have hn9 := hLr.n
  have hrb := hR.rb
  have hm1 : (wdnF L d 0).length = 0 := rfl
  have hm2 : rpC 26 (wdnF L d 0).length = rpC 26 0 ∧ rpS 26 (wdnF L d 0).length = rpS 26 0 := ⟨rfl, rfl⟩
  have hm3 : rpC (growT L d) (groF (wdnF L d L.length) (lowF L - d) d 0).length = rpC (growT L d) 0 ∧ rpS (growT L d) (groF (wdnF L d L.length) (lowF L - d) d 0).length = rpS (growT L d) 0 := ⟨rfl, rfl⟩
  have L80 : ∀ (n_ : Nat) (n r r2 zW : Nat) (H : Heap), growT L d - n = n_ → (pb_G w s_ H) → (n ≤ growT L d) → (H0.size ≤ zW) → (zW ≤ H.size) → (Rg w H (fun q => q < zW) r (wdnF L d L.length)) → (Rb w H zW r2 (groF (wdnF L d L.length) (lowF L - d) d n)) → (pb_F (fun q => q < H0.size) H0 H) → ∀ (ls : Array Slot), lv_has ls 5 [(0, .ref (a)), (1, .int (iZ (d))), (2, .ref (r)), (3, .ref (r2)), (4, .int (iZ ((lowF L - d + ((n : Nat) : Int)))))] → pb_V w.2.2.2 p_ l e_ (pb_rm 8 (135 + rpC 26 0 + 131 * growT L d + rpC (growT L d) 0) (3188 + rpS 26 0 + 3176 * growT L d + rpS (growT L d) 0)) s_ m_ ar_ bl_ me_ co_ H (131 * (growT L d - n) + rpC (growT L d) (groF (wdnF L d L.length) (lowF L - d) d n).length) (3176 * (growT L d - n) + rpS (growT L d) (groF (wdnF L d L.length) (lowF L - d) d n).length) (pb_E w bl_ ar_ s_ (135 + rpC 26 0 + 131 * growT L d + rpC (growT L d) 0) (3188 + rpS 26 0 + 3176 * growT L d + rpS (growT L d) 0) (pb_qr (fun r H1 => Rb w H1 H0.size r (groR L d) ∧ pb_F (fun q => q < H0.size) H0 H1))) (F0 m_ 80 ls []) := by
    intro n_
    induction n_ using Nat.strongRecOn with
    | _ n_ ih80 =>
    intro n r r2 zW H hm_ hG hn hzW0 hzW1 hW hRb hFF ls hl
    have hT0 : L.length = 0 → growT L d = 0 := fun h => if_pos h
    have hT1 : ¬ L.length = 0 → growT L d = ((bd L (L.length - 1)).2.1 + d - (lowF L - d)).toNat := fun h => if_neg h
    have hh8 := hh9 (L.length - 1)
    have hgl := groF_len (wdnF L d L.length) (lowF L - d) d n
    obtain ⟨HB, hHB⟩ : ∃ HB : Heap, HB = H := ⟨_, rfl⟩
    have hFI : pb_F (fun q => q < HB.size) HB H := by rw [hHB]; exact pb_F.rf
    have hzB : H0.size ≤ HB.size := by rw [hHB]; exact hFF.1
    have hRbB : Rb w HB zW r2 (groF (wdnF L d L.length) (lowF L - d) d n) := by rw [hHB]; exact hRb
    refine pb_aload_n C dX2_grown_80 rfl (lv_at hl 0 rfl) ?_
    obtain ⟨fsR_, hRo⟩ := (hR.kept hFF).o
    refine pb_go_x (bc' := 131 * (growT L d - n) + rpC (growT L d) (groF (wdnF L d L.length) (lowF L - d) d n).length) (bs' := 3176 * (growT L d - n) + rpS (growT L d) (groF (wdnF L d L.length) (lowF L - d) d n).length) (pb_runV (rest := []) C hG (met_X2_isEmpty l a _ L (hR.kept hFF)) hRo (ci := 1) rfl (lw_V q883 q884 q885 q55 q886) ⟨rfl, hdX2_isEmpty⟩ rfl hl.1 rfl (Nat.le_of_ble_eq_true rfl) ⟨(Nat.le_of_ble_eq_true rfl), (Nat.le_of_ble_eq_true rfl)⟩ dX2_grown_81) (by omega) (by omega) ?_
    refine pb_ifB_ne C dX2_grown_84 (tgt := 121) (by decide) (fun c84_ => ?_) (fun c84_ => ?_)
    · have c84_ := of_decide_eq_true c84_
      refine pb_aload_n C dX2_grown_121 rfl (lv_at hl 3 rfl) ?_
      exact pb_aret C (Or.inl ⟨_, rfl⟩) dX2_grown_122 (Or.inr ⟨_, rfl⟩) (⟨_, rfl, by rw [groR, show growT L d = n from by have := hT0 c84_; omega]; exact hRb.lw hzW0, hFF⟩)
    · have c84_ := of_decide_eq_false c84_
      refine pb_iload C dX2_grown_87 (lv_at hl 4 rfl) ?_
      refine pb_aload_n C dX2_grown_89 rfl (lv_at hl 0 rfl) ?_
      obtain ⟨fsR_, hRo⟩ := (hR.kept hFF).o
      refine pb_go_x (bc' := 131 * (growT L d - n) + rpC (growT L d) (groF (wdnF L d L.length) (lowF L - d) d n).length) (bs' := 3176 * (growT L d - n) + rpS (growT L d) (groF (wdnF L d L.length) (lowF L - d) d n).length) (pb_runV (rest := [.int (iZ ((lowF L - d + ((n : Nat) : Int))))]) C hG (met_X2_top l a _ L (hR.kept hFF) (by omega)) hRo (ci := 1) rfl (lw_V q887 q888 q889 q55 q890) ⟨rfl, hdX2_top⟩ rfl hl.1 rfl (Nat.le_of_ble_eq_true rfl) ⟨(Nat.le_of_ble_eq_true rfl), (Nat.le_of_ble_eq_true rfl)⟩ dX2_grown_90) (by omega) (by omega) ?_
      refine pb_iload_n C dX2_grown_93 rfl (lv_at hl 1 rfl) ?_
      refine pb_iadd C dX2_grown_94 ?_
      refine pb_icmp_ge C dX2_grown_95 (x := (lowF L - d + ((n : Nat) : Int))) (y := ((bd L (L.length - 1)).2.1 + d)) (tgt := 121) (by decide) (by omega) (by omega) (fun c95_ => ?_) (fun c95_ => ?_)
      · refine pb_aload_n C dX2_grown_121 rfl (lv_at hl 3 rfl) ?_
        exact pb_aret C (Or.inl ⟨_, rfl⟩) dX2_grown_122 (Or.inr ⟨_, rfl⟩) (⟨_, rfl, by rw [groR, show growT L d = n from by have := hT1 c84_; omega]; exact hRb.lw hzW0, hFF⟩)
      · refine pb_aload_n C dX2_grown_98 rfl (lv_at hl 3 rfl) ?_
        refine pb_iload C dX2_grown_99 (lv_at hl 4 rfl) ?_
        refine pb_iload C dX2_grown_101 (lv_at hl 4 rfl) ?_
        refine pb_ic C dX2_grown_103 ?_
        refine pb_iadd C dX2_grown_104 ?_
        refine pb_aload_n C dX2_grown_105 rfl (lv_at hl 2 rfl) ?_
        refine pb_iload C dX2_grown_106 (lv_at hl 4 rfl) ?_
        refine pb_iload_n C dX2_grown_108 rfl (lv_at hl 1 rfl) ?_
        have hT2 := hT1 c84_
        obtain ⟨fsW_, hWo⟩ := hW.o
        have hln := wdnF_len L d L.length
        refine pb_go_r (bc' := 131 * (growT L d - n) + rpC (growT L d) (groF (wdnF L d L.length) (lowF L - d) d n).length - 131) (bs' := 3176 * (growT L d - n) + rpS (growT L d) (groF (wdnF L d L.length) (lowF L - d) d n).length - 3176) (pb_runV (rest := [.int (iZ (((lowF L - d + ((n : Nat) : Int)) + 1))), .int (iZ ((lowF L - d + ((n : Nat) : Int)))), .ref (r2)]) C hG (met_X2_spansAround l r _ (wdnF L d L.length) hW (lowF L - d + ((n : Nat) : Int)) d (by omega) hd 26 (by omega) (fun k8 hk8 => hE (lowF L - d + ((n : Nat) : Int)) k8 hk8)) hWo (ci := 1) rfl (lw_V q891 q893 qs13 q55 q894) ⟨rfl, hdX2_spansAround⟩ rfl hl.1 rfl (Nat.le_of_ble_eq_true rfl) ⟨(Nat.le_of_ble_eq_true rfl), (Nat.le_of_ble_eq_true rfl)⟩ dX2_grown_109) (by omega) (by omega) (fun s9 H_ hp_ => ?_)
        have hz5 := hFF.1
        have hz8 := hFI.1
        obtain ⟨hS, hS2, hF1⟩ := hp_
        have hG := hG.kept (hF1.mono (fun q _ (hq : q < w.2.2.2) => Nat.lt_of_lt_of_le hq hG.1))
        have hFF := hFF.tr (hF1.mono (fun q _ (hq : q < H0.size) => Nat.lt_of_lt_of_le hq hFF.1))
        have hFI := hFI.tr (hF1.mono (fun q _ (hq : q < HB.size) => Nat.lt_of_lt_of_le hq hFI.1))
        have hW := hW.kept (hF1.mono (fun q h9 _ => h9))
        have hRb := hRbB.kept (hFI.mono (fun q h _ => h))
        obtain ⟨fsR2_, hRbo⟩ := hRb.o
        have hpot := radd_pot (L := (groF (wdnF L d L.length) (lowF L - d) d n)) (lo := (lowF L - d + ((n : Nat) : Int))) (hi := (lowF L - d + ((n : Nat) : Int)) + 1) (E := sarF (wdnF L d L.length) (lowF L - d + ((n : Nat) : Int)) d (wdnF L d L.length).length) (N := growT L d) (Nat.le_trans (radd_n hgl) (by omega))
        rw [show radd (groF (wdnF L d L.length) (lowF L - d) d n) (lowF L - d + ((n : Nat) : Int)) ((lowF L - d + ((n : Nat) : Int)) + 1) (sarF (wdnF L d L.length) (lowF L - d + ((n : Nat) : Int)) d (wdnF L d L.length).length) = groF (wdnF L d L.length) (lowF L - d) d (n + 1) from rfl] at hpot
        have hzS := Nat.le_trans hzW1 (show H.size ≤ H.size from Nat.le_refl _)
        have hzW9 := Nat.le_trans hzW1 (hHB ▸ hFI).1
        refine pb_go_v (bc' := 131 * (growT L d - n) + rpC (growT L d) (groF (wdnF L d L.length) (lowF L - d) d n).length - 131 - ((radc (groF (wdnF L d L.length) (lowF L - d) d n) (lowF L - d + ((n : Nat) : Int)) ((lowF L - d + ((n : Nat) : Int)) + 1) (sarF (wdnF L d L.length) (lowF L - d + ((n : Nat) : Int)) d (wdnF L d L.length).length)))) (bs' := 3176 * (growT L d - n) + rpS (growT L d) (groF (wdnF L d L.length) (lowF L - d) d n).length - 3176 - ((rads (groF (wdnF L d L.length) (lowF L - d) d n) (lowF L - d + ((n : Nat) : Int)) ((lowF L - d + ((n : Nat) : Int)) + 1) (sarF (wdnF L d L.length) (lowF L - d + ((n : Nat) : Int)) d (wdnF L d L.length).length)))) (pb_runV (rest := []) C hG (hS2.elim (fun h9 => met_X2_addE l zW r2 s9 (groF (wdnF L d L.length) (lowF L - d) d n) (sarF (wdnF L d L.length) (lowF L - d + ((n : Nat) : Int)) d (wdnF L d L.length).length) (lowF L - d + ((n : Nat) : Int)) ((lowF L - d + ((n : Nat) : Int)) + 1) (by omega) hRb _ hS (by omega) (by omega) (by omega) (Or.inr (by rw [h9]; rfl))) (fun h9 => met_X2_add l zW r2 s9 (groF (wdnF L d L.length) (lowF L - d) d n) (sarF (wdnF L d L.length) (lowF L - d + ((n : Nat) : Int)) d (wdnF L d L.length).length) (lowF L - d + ((n : Nat) : Int)) ((lowF L - d + ((n : Nat) : Int)) + 1) (by omega) hRb (h9.mono (fun q _ hq => Nat.le_trans hzS hq)) (by omega) (by omega) (by omega))) hRbo (ci := 1) rfl (lw_V q423 q424 q425 q55 q426) ⟨rfl, hdX2_add⟩ rfl hl.1 rfl (Nat.le_of_ble_eq_true rfl) ⟨(Nat.le_of_ble_eq_true rfl), (Nat.le_of_ble_eq_true rfl)⟩ dX2_grown_112) (by omega) (by omega) (fun H_ hp_ => ?_)
        obtain ⟨hRb, hFA⟩ := hp_
        have hG := hG.kept (hFA.mono (fun q _ (hq : q < w.2.2.2) => Or.inl (by omega)))
        have hFF := hFF.tr (hFA.mono (fun q _ (hq : q < H0.size) => Or.inl (by omega)))
        have hW := hW.kept (hFA.mono (fun q _ h => Or.inl h))
        have hzW2 := Nat.le_trans hzW9 hFA.1
        refine pb_iinc C dX2_grown_115 hl (j := 4) (x := ((lowF L - d + ((n : Nat) : Int)))) rfl (by decide) rfl fun ls hl => ?_
        have hl : lv_has ls 5 [(4, .int (iZ (((lowF L - d + ((n : Nat) : Int)) + 1)))), (0, .ref (a)), (1, .int (iZ (d))), (2, .ref (r)), (3, .ref (r2))] := hl
        rw [show ((lowF L - d + ((n : Nat) : Int)) + 1) = (lowF L - d + ((n + 1 : Nat) : Int)) from by omega] at hl
        refine pb_goto C dX2_grown_118 (tgt := 80) (by decide) ?_
        exact pb_V.mono (by omega) (by omega) (ih80 _ (by omega) (n + 1) r r2 zW H_ rfl hG (by omega) (by omega) hzW2 hW hRb hFF ls (lv_sub hl [1, 2, 3, 4, 0] rfl))
  have L18 : ∀ (n_ : Nat) (k it : Nat) (r : Nat) (H : Heap), V.length - k = n_ → (pb_G w s_ H) → (k ≤ V.length) → (H0.size ≤ it) → (It w H it t k V.length) → (pb_F (fun q => q < H0.size) H0 H) → (Rb w H H0.size r (wdnF L d k)) → ∀ (ls : Array Slot), lv_has ls 5 [(0, .ref (a)), (1, .int (iZ (d))), (2, .ref (r)), (3, .ref (it))] → pb_V w.2.2.2 p_ l e_ (pb_rm 8 (135 + rpC 26 0 + 131 * growT L d + rpC (growT L d) 0) (3188 + rpS 26 0 + 3176 * growT L d + rpS (growT L d) 0)) s_ m_ ar_ bl_ me_ co_ H (2 + 131 * growT L d + rpC (growT L d) 0 + 5 * (26 - k) + rpC 26 (wdnF L d k).length) (4 + 3176 * growT L d + rpS (growT L d) 0 + 122 * (26 - k) + rpS 26 (wdnF L d k).length) (pb_E w bl_ ar_ s_ (135 + rpC 26 0 + 131 * growT L d + rpC (growT L d) 0) (3188 + rpS 26 0 + 3176 * growT L d + rpS (growT L d) 0) (pb_qr (fun r H1 => Rb w H1 H0.size r (groR L d) ∧ pb_F (fun q => q < H0.size) H0 H1))) (F0 m_ 18 ls []) := by
    intro n_
    induction n_ using Nat.strongRecOn with
    | _ n_ ih18 =>
    intro k it r H hm_ hG hk hit hI hFF hRb ls hl
    obtain ⟨fsI_, hIo⟩ := hI.o
    refine pb_aload_n C dX2_grown_18 rfl (lv_at hl 3 rfl) ?_
    refine pb_go_x (bc' := 2 + 131 * growT L d + rpC (growT L d) 0 + 5 * (26 - k) + rpC 26 (wdnF L d k).length) (bs' := 4 + 3176 * growT L d + rpS (growT L d) 0 + 122 * (26 - k) + rpS 26 (wdnF L d k).length) (pb_runF (n := 0) (rest := []) C hG (x := ⟨"java/util/Iterator", "hasNext", "()Z"⟩) (met_J15_hasNext l it t k _ V hI (hLr.kept hFF) (by omega)) hIo (ci := 16) rfl (by decide) q683 q552 q554 q76 q556 (by decide +kernel) rfl hl.1 rfl (Nat.le_of_ble_eq_true rfl) ⟨(Nat.le_of_ble_eq_true rfl), (Nat.le_of_ble_eq_true rfl)⟩ dX2_grown_19) (by omega) (by omega) ?_
    refine pb_ifB_eq C dX2_grown_24 (tgt := 64) (by decide) (fun c24_ => ?_) (fun c24_ => ?_)
    · have c24_ := of_decide_eq_false c24_
      have hk9 : k = L.length := by omega
      rw [hk9] at hRb
      have hln := wdnF_len L d L.length
      obtain ⟨zW, hzW⟩ : ∃ z9 : Nat, z9 = H.size := ⟨_, rfl⟩
      have hW : Rg w H (fun q => q < zW) r (wdnF L d L.length) := (hRb.rg (by omega)).mono (fun q h9 h => by rw [hzW]; exact h.2)
      have hz1 := hFF.1
      refine pb_newE C in_X2 tyX2 tyX2_ok (ci := 1) rfl q402 q131 q55 (fs := [.null]) (by decide) (bc' := 2 + 131 * growT L d + rpC (growT L d) 0 + 5 * (26 - k) + rpC 26 (wdnF L d k).length - 1) (bs' := 4 + 3176 * growT L d + rpS (growT L d) 0 + 122 * (26 - k) + rpS 26 (wdnF L d k).length - 1) (by omega) (by omega) dX2_grown_64 fun a1_ H1_ ha_ hn_ hN1_ => ?_
      have hs1_ : H1_.size = H.size + 1 := hn_.1
      have hG := hG.kept (hn_.f.mono (fun _ _ _ => trivial))
      have hz7 := hFF.1
      have hFF := hFF.tr (hn_.f.mono (fun _ _ _ => trivial))
      have hW := hW.kept (hn_.f.mono (fun _ _ _ => trivial))
      have a1__e : a1_ = H.size := ha_
      refine pb_dup C dX2_grown_67 rfl ?_
      refine pb_go_v (bc' := 2 + 131 * growT L d + rpC (growT L d) 0 + 5 * (26 - k) + rpC 26 (wdnF L d k).length - 1 - 1) (bs' := 4 + 3176 * growT L d + rpS (growT L d) 0 + 122 * (26 - k) + rpS 26 (wdnF L d k).length - 1 - 3) (pb_runI (rest := [.ref (a1_)]) C hG (met_X2_init l zW a1_ (by omega) (by omega) hN1_) q403 q133 q55 q134 rfl hdX2_init rfl hl.1 rfl (Nat.le_of_ble_eq_true rfl) ⟨(Nat.le_of_ble_eq_true rfl), (Nat.le_of_ble_eq_true rfl)⟩ dX2_grown_68) (by omega) (by omega) (fun H_ hp_ => ?_)
      obtain ⟨hRb2, hF1⟩ := hp_
      have hG := hG.kept (hF1.mono (fun q _ (hq : q < w.2.2.2) => Or.inl (by omega)))
      have hFF := hFF.tr (hF1.mono (fun q _ (hq : q < H0.size) => Or.inl (by omega)))
      have hW := hW.kept (hF1.mono (fun q _ h => Or.inl h))
      have hzw3 : zW ≤ H_.size := by have := hF1.1; omega
      refine pb_astore_n C dX2_grown_71 rfl hl (by decide) rfl fun ls hl => ?_
      have hl : lv_has ls 5 [(3, .ref (a1_)), (0, .ref (a)), (1, .int (iZ (d))), (2, .ref (r))] := hl
      refine pb_aload_n C dX2_grown_72 rfl (lv_at hl 1 rfl) ?_
      obtain ⟨fsR_, hRo⟩ := (hR.kept hFF).o
      refine pb_go_x (bc' := 2 + 131 * growT L d + rpC (growT L d) 0 + 5 * (26 - k) + rpC 26 (wdnF L d k).length - 1 - 1) (bs' := 4 + 3176 * growT L d + rpS (growT L d) 0 + 122 * (26 - k) + rpS 26 (wdnF L d k).length - 1 - 3) (pb_runV (rest := []) C hG (met_X2_lowest l a _ L (hR.kept hFF)) hRo (ci := 1) rfl (lw_V q668 q670 qs6 q55 q671) ⟨rfl, hdX2_lowest⟩ rfl hl.1 rfl (Nat.le_of_ble_eq_true rfl) ⟨(Nat.le_of_ble_eq_true rfl), (Nat.le_of_ble_eq_true rfl)⟩ dX2_grown_73) (by omega) (by omega) ?_
      refine pb_iload_n C dX2_grown_76 rfl (lv_at hl 2 rfl) ?_
      refine pb_isub C dX2_grown_77 ?_
      refine pb_eq (g2 := F0 m_ 78 ls [.int (iZ ((lowF L - d + ((0 : Nat) : Int))))]) (congrArg (fun z9 => F0 m_ 78 ls [.int (iZ z9)]) (show ((lowF L) - d) = (lowF L - d + ((0 : Nat) : Int)) from (by omega))) ?_
      refine pb_istore C dX2_grown_78 hl (by decide) rfl fun ls hl => ?_
      have hl : lv_has ls 5 [(4, .int (iZ ((lowF L - d + ((0 : Nat) : Int))))), (3, .ref (a1_)), (0, .ref (a)), (1, .int (iZ (d))), (2, .ref (r))] := hl
      exact pb_V.mono (by omega) (by omega) (L80 _ 0 r a1_ zW H_ rfl hG (by omega) (by omega) (by omega) hW hRb2 hFF ls (lv_sub hl [2, 3, 4, 1, 0] rfl))
    · have c24_ := of_decide_eq_true c24_
      refine pb_aload_n C dX2_grown_27 rfl (lv_at hl 3 rfl) ?_
      have hI0 := hI
      have h0T : pb_Ty w H (w.2.2.1 0) 23 := hG.2.2.2.1.ty
      refine pb_go_r (bc' := 2 + 131 * growT L d + rpC (growT L d) 0 + 5 * (26 - k) + rpC 26 (wdnF L d k).length) (bs' := 4 + 3176 * growT L d + rpS (growT L d) 0 + 122 * (26 - k) + rpS 26 (wdnF L d k).length) (pb_runF (n := 0) (rest := []) C hG (x := ⟨"java/util/Iterator", "next", "()Ljava/lang/Object;"⟩) (met_J15_next l it t k _ V hI (hLr.kept hFF) (by omega) (fun h9 => absurd (show it < H0.size from h9) (by omega)) (by omega)) hIo (ci := 16) rfl (by decide) q685 q561 q563 q76 q565 (by decide +kernel) rfl hl.1 rfl (Nat.le_of_ble_eq_true rfl) ⟨(Nat.le_of_ble_eq_true rfl), (Nat.le_of_ble_eq_true rfl)⟩ dX2_grown_28) (by omega) (by omega) (fun b_ H_ hp_ => ?_)
      obtain ⟨rfl, hI, hF1⟩ := hp_
      have hG := hG.kept (hF1.mono (fun q _ (hq : q < w.2.2.2) => show q ≠ _ from by omega))
      have hFF := hFF.tr (hF1.mono (fun q _ (hq : q < H0.size) => show q ≠ _ from by omega))
      obtain ⟨hPb, sp, hOb, hSp, hb1, hb2⟩ := (hBd k (by omega)).kept hFF
      obtain ⟨fsp_, hSo⟩ := hSp.o
      have hrgp := hSp.rg
      have hRb := hRb.it C.inj h0T hI0 hF1
      obtain ⟨HB, hHB⟩ : ∃ HB : Heap, HB = H_ := ⟨_, rfl⟩
      have hFI : pb_F (fun q => q < HB.size) HB H_ := by rw [hHB]; exact pb_F.rf
      have hzB : H0.size ≤ HB.size := by rw [hHB]; exact hFF.1
      have hRbB : Rb w HB H0.size r (wdnF L d k) := by rw [hHB]; exact hRb
      have hlk := wdnF_len L d k
      have hz5 := hFF.1
      have hl64 : (bE L k).length ≤ 64 := hrgp.2
      have hh8 := hh9 k
      refine pb_cast C hOb (ci := 4) rfl q451 dX2_grown_33 ?_
      refine pb_astore C dX2_grown_36 hl (by decide) rfl fun ls hl => ?_
      have hl : lv_has ls 5 [(4, .ref ((nV V k))), (0, .ref (a)), (1, .int (iZ (d))), (2, .ref (r)), (3, .ref (it))] := hl
      refine pb_aload_n C dX2_grown_38 rfl (lv_at hl 3 rfl) ?_
      refine pb_aload C dX2_grown_39 (lv_at hl 0 rfl) ?_
      refine pb_getN C in_X5 hOb (ci := 4) rfl 0 (by decide) q464 (fun _ h9 => h9) (v := .int (iZ ((bd L k).1))) rfl dX2_grown_41 ?_
      refine pb_aload C dX2_grown_44 (lv_at hl 0 rfl) ?_
      refine pb_getN C in_X5 hOb (ci := 4) rfl 2 (by decide) q471 (fun _ h9 => h9) (v := .int (iZ ((bd L k).2.1))) rfl dX2_grown_46 ?_
      refine pb_aload C dX2_grown_49 (lv_at hl 0 rfl) ?_
      refine pb_getN C in_X5 hOb (ci := 4) rfl 1 (by decide) q468 (fun _ h9 => h9) (v := .ref (sp)) rfl dX2_grown_51 ?_
      refine pb_iload_n C dX2_grown_54 rfl (lv_at hl 2 rfl) ?_
      refine pb_go_r (bc' := 2 + 131 * growT L d + rpC (growT L d) 0 + 5 * (26 - k) + rpC 26 (wdnF L d k).length - 5) (bs' := 4 + 3176 * growT L d + rpS (growT L d) 0 + 122 * (26 - k) + rpS 26 (wdnF L d k).length - 122) (pb_runV (rest := [.int (iZ ((bd L k).2.1)), .int (iZ ((bd L k).1)), .ref (r)]) C hG (met_X4_widened l sp _ (bE L k) hSp d hd (hb9 k) (fun k8 hk8 => Nat.le_trans (mvE_len _ _ _ _) (by omega))) hSo (ci := 3) rfl (lw_V q876 q877 q878 q70 q879) ⟨rfl, hdX4_widened⟩ rfl hl.1 rfl (Nat.le_of_ble_eq_true rfl) ⟨(Nat.le_of_ble_eq_true rfl), (Nat.le_of_ble_eq_true rfl)⟩ dX2_grown_55) (by omega) (by omega) (fun s3 H_ hp_ => ?_)
      obtain ⟨m9, hS3, hF1⟩ := hp_
      have hG := hG.kept (hF1.mono (fun q _ (hq : q < w.2.2.2) => Nat.lt_of_lt_of_le hq hG.1))
      have hFF := hFF.tr (hF1.mono (fun q _ (hq : q < H0.size) => Nat.lt_of_lt_of_le hq hFF.1))
      have hFI := hFI.tr (hF1.mono (fun q _ (hq : q < HB.size) => Nat.lt_of_lt_of_le hq hFI.1))
      have hI9 := hI.kall (hF1.mono (fun q h _ => h))
      have hRb := hRbB.kept (hFI.mono (fun q h _ => h))
      obtain ⟨fsR_, hRbo⟩ := hRb.o
      have hpot := radd_pot (L := wdnF L d k) (lo := (bd L k).1) (hi := (bd L k).2.1) (E := (mvE (bE L k) (-d) d ((bE L k).length / 2))) (N := 26) (Nat.le_trans (radd_n hlk) (by omega))
      rw [show radd (wdnF L d k) ((bd L k).1) ((bd L k).2.1) (mvE (bE L k) (-d) d ((bE L k).length / 2)) = wdnF L d (k + 1) from rfl] at hpot
      refine pb_go_v (bc' := 2 + 131 * growT L d + rpC (growT L d) 0 + 5 * (26 - k) + rpC 26 (wdnF L d k).length - 5 - ((radc ((wdnF L d k)) ((bd L k).1) ((bd L k).2.1) ((mvE (bE L k) (-d) d ((bE L k).length / 2)))))) (bs' := 4 + 3176 * growT L d + rpS (growT L d) 0 + 122 * (26 - k) + rpS 26 (wdnF L d k).length - 122 - ((rads ((wdnF L d k)) ((bd L k).1) ((bd L k).2.1) ((mvE (bE L k) (-d) d ((bE L k).length / 2)))))) (pb_runV (rest := []) C hG (met_X2_add l H0.size r _ ((wdnF L d k)) ((mvE (bE L k) (-d) d ((bE L k).length / 2))) ((bd L k).1) ((bd L k).2.1) (by omega) hRb (hS3.hi hz5) (by omega) (by omega) (by omega)) hRbo (ci := 1) rfl (lw_V q423 q424 q425 q55 q426) ⟨rfl, hdX2_add⟩ rfl hl.1 rfl (Nat.le_of_ble_eq_true rfl) ⟨(Nat.le_of_ble_eq_true rfl), (Nat.le_of_ble_eq_true rfl)⟩ dX2_grown_58) (by omega) (by omega) (fun H_ hp_ => ?_)
      obtain ⟨hRb, hFA⟩ := hp_
      have hG := hG.kept (hFA.mono (fun q _ (hq : q < w.2.2.2) => Or.inl (by omega)))
      have hFF := hFF.tr (hFA.mono (fun q _ hq => Or.inl hq))
      refine pb_goto C dX2_grown_61 (tgt := 18) (by decide) ?_
      exact pb_V.mono (by omega) (by omega) (ih18 _ (by omega) (k + 1) it r H_ rfl hG (by omega) (by omega) (hI9.fa hFA) hFF (by rw [wdnF]; exact hRb) ls (lv_sub hl [1, 2, 3, 4] rfl))
  refine pb_newE C in_X2 tyX2 tyX2_ok (ci := 1) rfl q402 q131 q55 (fs := [.null]) (by decide) (bc' := 135 + rpC 26 0 + 131 * growT L d + rpC (growT L d) 0 - 1) (bs' := 3188 + rpS 26 0 + 3176 * growT L d + rpS (growT L d) 0 - 1) (by omega) (by omega) dX2_grown_0 fun a2_ H2_ ha_ hn_ hN2_ => ?_
  have hs2_ : H2_.size = H0.size + 1 := hn_.1
  have hG := hG.kept (hn_.f.mono (fun _ _ _ => trivial))
  have hO := hO.kept (hn_.2 _ hO.lt)
  have hz7 := hFF.1
  have hFF := hFF.tr (hn_.f.mono (fun _ _ _ => trivial))
  obtain rfl : a2_ = H0.size := by omega
  skip
  have hN := hN2_
  refine pb_dup C dX2_grown_3 rfl ?_
  have hz9 := hFF.1
  refine pb_go_v (bc' := 135 + rpC 26 0 + 131 * growT L d + rpC (growT L d) 0 - 1 - 1) (bs' := 3188 + rpS 26 0 + 3176 * growT L d + rpS (growT L d) 0 - 1 - 3) (pb_runI (rest := [.ref (H0.size)]) C hG (met_X2_init l H0.size H0.size (by omega) (by omega) hN) q403 q133 q55 q134 rfl hdX2_init rfl hl.1 rfl (Nat.le_of_ble_eq_true rfl) ⟨(Nat.le_of_ble_eq_true rfl), (Nat.le_of_ble_eq_true rfl)⟩ dX2_grown_4) (by omega) (by omega) (fun H_ hp_ => ?_)
  obtain ⟨hRb, hF1⟩ := hp_
  have hG := hG.kept (hF1.mono (fun q _ (hq : q < w.2.2.2) => Or.inl (by omega)))
  have hFF := hFF.tr (hF1.mono (fun q _ hq => Or.inl hq))
  have hO := hO.kept (hF1.2 _ hO.lt (Or.inl hPa))
  refine pb_astore_n C dX2_grown_7 rfl hl (by decide) rfl fun ls hl => ?_
  have hl : lv_has ls 5 [(2, .ref (H0.size)), (0, .ref (a)), (1, .int (iZ (d)))] := hl
  refine pb_aload_n C dX2_grown_8 rfl (lv_at hl 1 rfl) ?_
  refine pb_get C in_X2 hO (ci := 1) rfl 0 (by decide) q139 (fun _ h9 => h9) (v := .ref (t)) rfl dX2_grown_9 ?_
  obtain ⟨fsL9_, hLo9⟩ := (hLr.kept hFF).o
  refine pb_go_r (bc' := 135 + rpC 26 0 + 131 * growT L d + rpC (growT L d) 0 - 1 - 1 - 1) (bs' := 3188 + rpS 26 0 + 3176 * growT L d + rpS (growT L d) 0 - 1 - 3 - 4) (pb_runF (n := 0) (rest := []) C hG (x := ⟨"java/util/List", "iterator", "()Ljava/util/Iterator;"⟩) (met_J2_iterator l t _ V (hLr.kept hFF)) hLo9 (ci := 15) rfl (by decide) q681 q523 q525 q54 q527 (by decide +kernel) rfl hl.1 rfl (Nat.le_of_ble_eq_true rfl) ⟨(Nat.le_of_ble_eq_true rfl), (Nat.le_of_ble_eq_true rfl)⟩ dX2_grown_12) (by omega) (by omega) (fun it H_ hp_ => ?_)
  obtain ⟨hit, hI, hF1⟩ := hp_
  have hz4 := hFF.1
  have hG := hG.kept (hF1.mono (fun _ _ _ => trivial))
  have hFF := hFF.tr (hF1.mono (fun _ _ _ => trivial))
  have hRb := hRb.kept (hF1.mono (fun _ _ _ => trivial))
  refine pb_astore_n C dX2_grown_17 rfl hl (by decide) rfl fun ls hl => ?_
  have hl : lv_has ls 5 [(3, .ref (it)), (2, .ref (H0.size)), (0, .ref (a)), (1, .int (iZ (d)))] := hl
  exact pb_V.mono (by omega) (by omega) (L18 _ 0 it H0.size H_ rfl hG (by omega) (by omega) hI hFF hRb ls (lv_sub hl [2, 3, 1, 0] rfl))

