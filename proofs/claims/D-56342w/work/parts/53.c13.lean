set_option maxRecDepth 100000
set_option maxHeartbeats 1000000 in
theorem met_X2_turned {w : pb_W} (l : Launch) {H0 : Heap} (a : Nat) (P : Nat → Prop) (L : List Bnd) (hR : Rg w H0 P a L) (hh9 : ∀ j, (-900 ≤ (bd L j).1 ∧ (bd L j).1 ≤ 900) ∧ (-900 ≤ (bd L j).2.1 ∧ (bd L j).2.1 ≤ 900)) (hNB : L.length ≤ 32) : pb_M w l yX2_turned cX2_turned 6 (some (.object "PolygonBoard$Region")) 8 (2 + 24 * 5 + rpC 24 0) (4 + 24 * 122 + rpS 24 0) [.ref (a)] H0 (pb_qr (fun r H1 => Rb w H1 H0.size r (turF L 24) ∧ pb_F (fun q => q < H0.size) H0 H1)) := by
  refine pb_of (by decide +kernel) (Nat.le_of_ble_eq_true rfl) ?_
  intro p_ e_ s_ m_ ar_ bl_ me_ co_ ls C hh hG hl
  have hl : lv_has ls 6 [(0, .ref (a))] := hl
  have hzs := hG.1
  have hFF : pb_F (fun q => q < H0.size) H0 H0 := pb_F.rf
  have hR := hR.below
  obtain ⟨t, V, hPa, hO, hLr, hVn, hBd⟩ := id hR
  obtain ⟨fsL_, hLo⟩ := hLr.o
  have hn9 := hLr.n
  have hrb := hR.rb
  have hO0 := hO
  have hm2 : rpC 24 (turF L 0).length = rpC 24 0 ∧ rpS 24 (turF L 0).length = rpS 24 0 := ⟨rfl, rfl⟩
  have L10 : ∀ (n_ : Nat) (n r : Nat) (H : Heap), 24 - n = n_ → (pb_G w s_ H) → (n ≤ 24) → (Rb w H H0.size r (turF L n)) → (pb_F (fun q => q < H0.size) H0 H) → ∀ (ls : Array Slot), lv_has ls 6 [(0, .ref (a)), (1, .ref (r)), (2, .int (iZ (((n : Nat) : Int))))] → pb_V w.2.2.2 p_ l e_ (pb_rm 8 (2 + 24 * 5 + rpC 24 0) (4 + 24 * 122 + rpS 24 0)) s_ m_ ar_ bl_ me_ co_ H ((24 - n) * 5 + rpC 24 (turF L n).length) ((24 - n) * 122 + rpS 24 (turF L n).length) (pb_E w bl_ ar_ s_ (2 + 24 * 5 + rpC 24 0) (4 + 24 * 122 + rpS 24 0) (pb_qr (fun r H1 => Rb w H1 H0.size r (turF L 24) ∧ pb_F (fun q => q < H0.size) H0 H1))) (F0 m_ 10 ls []) := by
    intro n_
    induction n_ using Nat.strongRecOn with
    | _ n_ ih10 =>
    intro n r H hm_ hG hn hRb hFF ls hl
    have hO := hO.kept (hFF.2 _ hO.lt hPa)
    have hgl := turF_len L n
    have hp8 : potc 8 = 3 ∧ pot 8 = 112 := ⟨rfl, rfl⟩
    obtain ⟨HB, hHB⟩ : ∃ HB : Heap, HB = H := ⟨_, rfl⟩
    have hFI : pb_F (fun q => q < HB.size) HB H := by rw [hHB]; exact pb_F.rf
    have hzB : H0.size ≤ HB.size := by rw [hHB]; exact hFF.1
    have hRbB : Rb w HB H0.size r ((turF L n)) := by rw [hHB]; exact hRb
    have L37 : ∀ (n_ : Nat) (j m s : Nat) (H : Heap), L.length - j = n_ → (pb_G w s_ H) → (n < 24) → (j ≤ L.length) → (Sb w H HB.size s (trE L ((n : Nat) : Int) j) m) → (pb_F (fun q => q < H0.size) H0 H) → (pb_F (fun q => q < HB.size) HB H) → ∀ (ls : Array Slot), lv_has ls 6 [(0, .ref (a)), (1, .ref (r)), (2, .int (iZ (((n : Nat) : Int)))), (3, .ref (s)), (4, .int (iZ ((((L.length : Nat) : Int) - 1 - ((j : Nat) : Int)))))] → pb_V w.2.2.2 p_ l e_ (pb_rm 8 (2 + 24 * 5 + rpC 24 0) (4 + 24 * 122 + rpS 24 0)) s_ m_ ar_ bl_ me_ co_ H (potc m + (24 - n - 1) * 5 + rpC 24 (turF L n).length) (pot m + (24 - n - 1) * 122 + rpS 24 (turF L n).length) (pb_E w bl_ ar_ s_ (2 + 24 * 5 + rpC 24 0) (4 + 24 * 122 + rpS 24 0) (pb_qr (fun r H1 => Rb w H1 H0.size r (turF L 24) ∧ pb_F (fun q => q < H0.size) H0 H1))) (F0 m_ 37 ls []) := by
      intro n_
      induction n_ using Nat.strongRecOn with
      | _ n_ ih37 =>
      intro j m s H hm_ hG hn1 hj hSb hFF hFI ls hl
      have hO := hO0.kept (hFF.2 _ hO0.lt hPa)
      have htl := trE_len L ((n : Nat) : Int) j
      refine pb_iload C dX2_turned_37 (lv_at hl 4 rfl) ?_
      refine pb_if_lt C dX2_turned_39 (x := (((L.length : Nat) : Int) - 1 - ((j : Nat) : Int))) (tgt := 96) (by decide) (by omega) (fun c39_ => ?_) (fun c39_ => ?_)
      · have hj9 : j = L.length := by omega
        rw [hj9] at hSb
        have hpot := radd_pot (L := (turF L n)) (lo := ((n : Nat) : Int)) (hi := ((n + 1 : Nat) : Int)) (E := (trE L ((n : Nat) : Int) L.length)) (N := 24) (Nat.le_trans (radd_n hgl) (by omega))
        rw [show radd (turF L n) ((n : Nat) : Int) ((n + 1 : Nat) : Int) (trE L ((n : Nat) : Int) L.length) = turF L (n + 1) from rfl] at hpot
        have hRb := hRbB.kept (hFI.mono (fun q h _ => h))
        obtain ⟨fsR_, hRbo⟩ := hRb.o
        refine pb_aload_n C dX2_turned_96 rfl (lv_at hl 1 rfl) ?_
        refine pb_iload_n C dX2_turned_97 rfl (lv_at hl 2 rfl) ?_
        refine pb_iload_n C dX2_turned_98 rfl (lv_at hl 2 rfl) ?_
        refine pb_ic C dX2_turned_99 ?_
        refine pb_iadd C dX2_turned_100 ?_
        refine pb_aload_n C dX2_turned_101 rfl (lv_at hl 3 rfl) ?_
        refine pb_go_v (bc' := potc m + (24 - n - 1) * 5 + rpC 24 (turF L n).length - ((radc ((turF L n)) (((n : Nat) : Int)) (((n + 1 : Nat) : Int)) ((trE L ((n : Nat) : Int) L.length))))) (bs' := pot m + (24 - n - 1) * 122 + rpS 24 (turF L n).length - ((rads ((turF L n)) (((n : Nat) : Int)) (((n + 1 : Nat) : Int)) ((trE L ((n : Nat) : Int) L.length))))) (pb_runV (rest := []) C hG (met_X2_add l H0.size r _ ((turF L n)) ((trE L ((n : Nat) : Int) L.length)) (((n : Nat) : Int)) (((n + 1 : Nat) : Int)) (by omega) hRb (hSb.hi hzB) (by omega) (by omega) (by omega)) hRbo (ci := 1) rfl (lw_V q423 q424 q425 q55 q426) ⟨rfl, hdX2_add⟩ rfl hl.1 rfl (Nat.le_of_ble_eq_true rfl) ⟨(Nat.le_of_ble_eq_true rfl), (Nat.le_of_ble_eq_true rfl)⟩ dX2_turned_102) (by omega) (by omega) (fun H_ hp_ => ?_)
        obtain ⟨hRb, hFA⟩ := hp_
        have hG := hG.kept (hFA.mono (fun q _ (hq : q < w.2.2.2) => Or.inl (by omega)))
        have hFF := hFF.tr (hFA.mono (fun q _ hq => Or.inl hq))
        refine pb_iinc C dX2_turned_105 hl (j := 2) (x := (((n : Nat) : Int))) rfl (by decide) rfl fun ls hl => ?_
        have hl : lv_has ls 6 [(2, .int (iZ ((((n + 1) : Nat) : Int)))), (0, .ref (a)), (1, .ref (r)), (3, .ref (s)), (4, .int (iZ ((((L.length : Nat) : Int) - 1 - ((j : Nat) : Int)))))] := hl
        refine pb_goto C dX2_turned_108 (tgt := 10) (by decide) ?_
        exact pb_V.mono (by omega) (by omega) (ih10 _ (by omega) (n + 1) r H_ rfl hG (by omega) hRb hFF ls (lv_sub hl [1, 2, 0] rfl))
      · refine pb_aload_n C dX2_turned_42 rfl (lv_at hl 0 rfl) ?_
        refine pb_get C in_X2 hO (ci := 1) rfl 0 (by decide) q139 (fun _ h9 => h9) (v := .ref (t)) rfl dX2_turned_43 ?_
        refine pb_iload C dX2_turned_46 (lv_at hl 4 rfl) ?_
        refine pb_eq (g2 := F0 m_ 48 ls [.int (iZ ((((L.length - 1 - j) : Nat) : Int))), .ref (t)]) (congrArg (fun z9 => F0 m_ 48 ls [.int (iZ z9), .ref (t)]) (show (((L.length : Nat) : Int) - 1 - ((j : Nat) : Int)) = (((L.length - 1 - j) : Nat) : Int) from (by omega))) ?_
        obtain ⟨fsL_, hLo⟩ := (hLr.kept hFF).o
        refine pb_go_x (bc' := potc m + (24 - n - 1) * 5 + rpC 24 (turF L n).length) (bs' := pot m + (24 - n - 1) * 122 + rpS 24 (turF L n).length) (pb_runF (n := 1) (rest := []) C hG (x := ⟨"java/util/List", "get", "(I)Ljava/lang/Object;"⟩) (met_J2_get l t _ V (hLr.kept hFF) (L.length - 1 - j) (by omega)) hLo (ci := 15) rfl (by decide) q450 q360 q362 q54 q364 (by decide +kernel) rfl hl.1 rfl (Nat.le_of_ble_eq_true rfl) ⟨(Nat.le_of_ble_eq_true rfl), (Nat.le_of_ble_eq_true rfl)⟩ dX2_turned_48) (by omega) (by omega) ?_
        obtain ⟨hPb, sp, hOb, hSp, hb1, hb2⟩ := (hBd (L.length - 1 - j) (by omega)).kept hFF
        obtain ⟨fsp_, hSo⟩ := hSp.o
        refine pb_cast C hOb (ci := 4) rfl q451 dX2_turned_53 ?_
        refine pb_astore C dX2_turned_56 hl (by decide) rfl fun ls hl => ?_
        have hl : lv_has ls 6 [(5, .ref ((nV V (L.length - 1 - j)))), (0, .ref (a)), (1, .ref (r)), (2, .int (iZ (((n : Nat) : Int)))), (3, .ref (s)), (4, .int (iZ ((((L.length : Nat) : Int) - 1 - ((j : Nat) : Int)))))] := hl
        refine pb_aload C dX2_turned_58 (lv_at hl 0 rfl) ?_
        refine pb_getN C in_X5 hOb (ci := 4) rfl 1 (by decide) q468 (fun _ h9 => h9) (v := .ref (sp)) rfl dX2_turned_60 ?_
        refine pb_iload_n C dX2_turned_63 rfl (lv_at hl 3 rfl) ?_
        refine pb_go_x (bc' := potc m + (24 - n - 1) * 5 + rpC 24 (turF L n).length) (bs' := pot m + (24 - n - 1) * 122 + rpS 24 (turF L n).length) (pb_runV (rest := []) C hG (met_X4_contains l sp _ (bE L (L.length - 1 - j)) hSp ((n : Nat) : Int) (by omega)) hSo (ci := 3) rfl (lw_V q944 q945 q946 q70 q947) ⟨rfl, hdX4_contains⟩ rfl hl.1 rfl (Nat.le_of_ble_eq_true rfl) ⟨(Nat.le_of_ble_eq_true rfl), (Nat.le_of_ble_eq_true rfl)⟩ dX2_turned_64) (by omega) (by omega) ?_
        refine pb_ifB_eq C dX2_turned_67 (tgt := 90) (by decide) (fun c67_ => ?_) (fun c67_ => ?_)
        · refine pb_iinc C dX2_turned_90 hl (j := 5) (x := ((((L.length : Nat) : Int) - 1 - ((j : Nat) : Int)))) rfl (by decide) rfl fun ls hl => ?_
          have hl : lv_has ls 6 [(4, .int (iZ (((((L.length : Nat) : Int) - 1 - ((j : Nat) : Int)) + (-1))))), (5, .ref ((nV V (L.length - 1 - j)))), (0, .ref (a)), (1, .ref (r)), (2, .int (iZ (((n : Nat) : Int)))), (3, .ref (s))] := hl
          rw [show ((((L.length : Nat) : Int) - 1 - ((j : Nat) : Int)) + (-1)) = (((L.length : Nat) : Int) - 1 - ((j + 1 : Nat) : Int)) from by omega] at hl
          refine pb_goto C dX2_turned_93 (tgt := 37) (by decide) ?_
          exact pb_V.mono (by omega) (by omega) (ih37 _ (by omega) (j + 1) m s H rfl hG (by omega) (by omega) (by rw [trE, if_neg (by rw [c67_]; exact Bool.false_ne_true)]; exact hSb) hFF hFI ls (lv_sub hl [2, 3, 4, 5, 0] rfl))
        · have hL1 : (spadd (trE L ((n : Nat) : Int) j) (24 - (bd L (L.length - 1 - j)).2.1) (24 - (bd L (L.length - 1 - j)).1)).length ≤ 64 := Nat.le_trans (spadd_le _ _ _) (by omega)
          have hpot := sp_pot (E := (trE L ((n : Nat) : Int) j)) (l := (24 - (bd L (L.length - 1 - j)).2.1)) (r := (24 - (bd L (L.length - 1 - j)).1)) hSb.m8 hL1
          have hhI := hh9 (L.length - 1 - j)
          refine pb_aload_n C dX2_turned_70 rfl (lv_at hl 4 rfl) ?_
          refine pb_bip C dX2_turned_71 (by decide) ?_
          refine pb_aload C dX2_turned_73 (lv_at hl 0 rfl) ?_
          refine pb_getN C in_X5 hOb (ci := 4) rfl 2 (by decide) q471 (fun _ h9 => h9) (v := .int (iZ ((bd L (L.length - 1 - j)).2.1))) rfl dX2_turned_75 ?_
          refine pb_isub C dX2_turned_78 ?_
          refine pb_bip C dX2_turned_79 (by decide) ?_
          refine pb_aload C dX2_turned_81 (lv_at hl 0 rfl) ?_
          refine pb_getN C in_X5 hOb (ci := 4) rfl 0 (by decide) q464 (fun _ h9 => h9) (v := .int (iZ ((bd L (L.length - 1 - j)).1))) rfl dX2_turned_83 ?_
          refine pb_isub C dX2_turned_86 ?_
          obtain ⟨fs_, hR_⟩ := hSb.o
          have hz9 := hFF.1
          refine pb_go_v (bc' := potc m + (24 - n - 1) * 5 + rpC 24 (turF L n).length - ((spc ((trE L ((n : Nat) : Int) j)) ((24 - (bd L (L.length - 1 - j)).2.1)) ((24 - (bd L (L.length - 1 - j)).1)) m))) (bs' := pot m + (24 - n - 1) * 122 + rpS 24 (turF L n).length - ((sps ((trE L ((n : Nat) : Int) j)) ((24 - (bd L (L.length - 1 - j)).2.1)) ((24 - (bd L (L.length - 1 - j)).1)) m))) (pb_runV (rest := []) C hG (met_X4_add l HB.size s m ((trE L ((n : Nat) : Int) j)) (by omega) hSb ((24 - (bd L (L.length - 1 - j)).2.1)) ((24 - (bd L (L.length - 1 - j)).1)) (by omega) (by omega) hL1) hR_ (ci := 3) rfl (lw_V q418 q419 q420 q70 q421) ⟨rfl, hdX4_add⟩ rfl hl.1 rfl (Nat.le_of_ble_eq_true rfl) ⟨(Nat.le_of_ble_eq_true rfl), (Nat.le_of_ble_eq_true rfl)⟩ dX2_turned_87) (by omega) (by omega) (fun H_ hp_ => ?_)
          obtain ⟨hSb, hF1⟩ := hp_
          have hG := hG.kept (hF1.mono (fun q _ (hq : q < w.2.2.2) => show q < _ from by omega))
          have hFF := hFF.tr (hF1.mono (fun q _ (hq : q < H0.size) => show q < _ from by omega))
          have hFI := hFI.tr hF1
          refine pb_iinc C dX2_turned_90 hl (j := 5) (x := ((((L.length : Nat) : Int) - 1 - ((j : Nat) : Int)))) rfl (by decide) rfl fun ls hl => ?_
          have hl : lv_has ls 6 [(4, .int (iZ (((((L.length : Nat) : Int) - 1 - ((j : Nat) : Int)) + (-1))))), (5, .ref ((nV V (L.length - 1 - j)))), (0, .ref (a)), (1, .ref (r)), (2, .int (iZ (((n : Nat) : Int)))), (3, .ref (s))] := hl
          rw [show ((((L.length : Nat) : Int) - 1 - ((j : Nat) : Int)) + (-1)) = (((L.length : Nat) : Int) - 1 - ((j + 1 : Nat) : Int)) from by omega] at hl
          refine pb_goto C dX2_turned_93 (tgt := 37) (by decide) ?_
          exact pb_V.mono (by omega) (by omega) (ih37 _ (by omega) (j + 1) (spm (trE L ((n : Nat) : Int) j) (24 - (bd L (L.length - 1 - j)).2.1) (24 - (bd L (L.length - 1 - j)).1) m) s H_ rfl hG (by omega) (by omega) (by rw [trE, if_pos c67_]; exact hSb) hFF hFI ls (lv_sub hl [2, 3, 4, 5, 0] rfl))
    refine pb_iload_n C dX2_turned_10 rfl (lv_at hl 2 rfl) ?_
    refine pb_bip C dX2_turned_11 (by decide) ?_
    refine pb_icmp_ge C dX2_turned_13 (x := ((n : Nat) : Int)) (y := 24) (tgt := 111) (by decide) (by omega) (by omega) (fun c13_ => ?_) (fun c13_ => ?_)
    · refine pb_aload_n C dX2_turned_111 rfl (lv_at hl 1 rfl) ?_
      exact pb_aret C (Or.inl ⟨_, rfl⟩) dX2_turned_112 (Or.inr ⟨_, rfl⟩) (⟨_, rfl, by rw [show 24 = n from by omega]; exact hRb, hFF⟩)
    · have hz6 := hFI.1
      refine pb_newE C in_X4 tyX4 tyX4_ok (ci := 3) rfl q404 q405 q70 (fs := [.null, .int (iZ (0))]) (by decide) (bc' := (24 - n) * 5 + rpC 24 (turF L n).length - 1) (bs' := (24 - n) * 122 + rpS 24 (turF L n).length - 2) (by omega) (by omega) dX2_turned_16 fun a1_ H1_ ha_ hn_ hN1_ => ?_
      have hs1_ : H1_.size = H.size + 1 := hn_.1
      have hG := hG.kept (hn_.f.mono (fun _ _ _ => trivial))
      have hO := hO.kept (hn_.2 _ hO.lt)
      have hz7 := hFF.1
      have hFF := hFF.tr (hn_.f.mono (fun _ _ _ => trivial))
      have hFI := hFI.tr (hn_.f.mono (fun _ _ _ => trivial))
      have a1__e : a1_ = H.size := ha_
      refine pb_dup C dX2_turned_19 rfl ?_
      have hz9 := hFF.1
      have hz8 := hFI.1
      refine pb_go_v (bc' := (24 - n) * 5 + rpC 24 (turF L n).length - 1 - 1) (bs' := (24 - n) * 122 + rpS 24 (turF L n).length - 2 - 8) (pb_runIN (rest := [.ref (a1_)]) C hG (met_X4_init l HB.size a1_ (by omega) (by omega) hN1_) q406 q407 q70 q408 rfl hdX4_init rfl hl.1 rfl (Nat.le_of_ble_eq_true rfl) ⟨(Nat.le_of_ble_eq_true rfl), (Nat.le_of_ble_eq_true rfl)⟩ dX2_turned_20) (by omega) (by omega) (fun H_ hp_ => ?_)
      obtain ⟨hSb, hF1⟩ := hp_
      have hG := hG.kept (hF1.mono (fun q _ (hq : q < w.2.2.2) => show q ≠ _ from by omega))
      have hO := hO.kept (hF1.2 _ hO.lt (show a ≠ _ from by have : a < H0.size := hPa; omega))
      have hFF := hFF.tr (hF1.mono (fun q _ (hq : q < H0.size) => show q ≠ _ from by omega))
      have hFI := hFI.tr (hF1.mono (fun q _ (hq : q < HB.size) => show q ≠ _ from by omega))
      refine pb_astore_n C dX2_turned_23 rfl hl (by decide) rfl fun ls hl => ?_
      have hl : lv_has ls 6 [(3, .ref (a1_)), (0, .ref (a)), (1, .ref (r)), (2, .int (iZ (((n : Nat) : Int))))] := hl
      refine pb_aload_n C dX2_turned_24 rfl (lv_at hl 1 rfl) ?_
      refine pb_get C in_X2 hO (ci := 1) rfl 0 (by decide) q139 (fun _ h9 => h9) (v := .ref (t)) rfl dX2_turned_25 ?_
      obtain ⟨fsL_, hLo⟩ := (hLr.kept hFF).o
      refine pb_go_x (bc' := (24 - n) * 5 + rpC 24 (turF L n).length - 1 - 1) (bs' := (24 - n) * 122 + rpS 24 (turF L n).length - 2 - 8) (pb_runF (n := 0) (rest := []) C hG (x := ⟨"java/util/List", "size", "()I"⟩) (met_J2_size l t _ V (hLr.kept hFF)) hLo (ci := 15) rfl (by decide) q441 q444 q446 q54 q448 (by decide +kernel) rfl hl.1 rfl (Nat.le_of_ble_eq_true rfl) ⟨(Nat.le_of_ble_eq_true rfl), (Nat.le_of_ble_eq_true rfl)⟩ dX2_turned_28) (by omega) (by omega) ?_
      refine pb_ic C dX2_turned_33 ?_
      refine pb_isub C dX2_turned_34 ?_
      refine pb_eq (g2 := F0 m_ 35 ls [.int (iZ ((((L.length : Nat) : Int) - 1 - ((0 : Nat) : Int))))]) (congrArg (fun z9 => F0 m_ 35 ls [.int (iZ z9)]) (show (((V.length : Nat) : Int) - 1) = (((L.length : Nat) : Int) - 1 - ((0 : Nat) : Int)) from (by omega))) ?_
      refine pb_istore C dX2_turned_35 hl (by decide) rfl fun ls hl => ?_
      have hl : lv_has ls 6 [(4, .int (iZ ((((L.length : Nat) : Int) - 1 - ((0 : Nat) : Int))))), (3, .ref (a1_)), (0, .ref (a)), (1, .ref (r)), (2, .int (iZ (((n : Nat) : Int))))] := hl
      exact pb_V.mono (by omega) (by omega) (L37 _ 0 8 a1_ H_ rfl hG (by omega) (by omega) hSb hFF hFI ls (lv_sub hl [2, 3, 4, 1, 0] rfl))
  refine pb_newE C in_X2 tyX2 tyX2_ok (ci := 1) rfl q402 q131 q55 (fs := [.null]) (by decide) (bc' := 2 + 24 * 5 + rpC 24 0 - 1) (bs' := 4 + 24 * 122 + rpS 24 0 - 1) (by omega) (by omega) dX2_turned_0 fun a2_ H2_ ha_ hn_ hN2_ => ?_
  have hs2_ : H2_.size = H0.size + 1 := hn_.1
  have hG := hG.kept (hn_.f.mono (fun _ _ _ => trivial))
  have hO := hO.kept (hn_.2 _ hO.lt)
  have hz7 := hFF.1
  have hFF := hFF.tr (hn_.f.mono (fun _ _ _ => trivial))
  obtain rfl : a2_ = H0.size := by omega
  skip
  have hN := hN2_
  refine pb_dup C dX2_turned_3 rfl ?_
  have hz9 := hFF.1
  refine pb_go_v (bc' := 2 + 24 * 5 + rpC 24 0 - 1 - 1) (bs' := 4 + 24 * 122 + rpS 24 0 - 1 - 3) (pb_runI (rest := [.ref (H0.size)]) C hG (met_X2_init l H0.size H0.size (by omega) (by omega) hN) q403 q133 q55 q134 rfl hdX2_init rfl hl.1 rfl (Nat.le_of_ble_eq_true rfl) ⟨(Nat.le_of_ble_eq_true rfl), (Nat.le_of_ble_eq_true rfl)⟩ dX2_turned_4) (by omega) (by omega) (fun H_ hp_ => ?_)
  obtain ⟨hRb, hF1⟩ := hp_
  have hG := hG.kept (hF1.mono (fun q _ (hq : q < w.2.2.2) => Or.inl (by omega)))
  have hFF := hFF.tr (hF1.mono (fun q _ hq => Or.inl hq))
  have hO := hO.kept (hF1.2 _ hO.lt (Or.inl hPa))
  have hp8 : potc 8 = 3 ∧ pot 8 = 112 := ⟨rfl, rfl⟩
  refine pb_astore_n C dX2_turned_7 rfl hl (by decide) rfl fun ls hl => ?_
  have hl : lv_has ls 6 [(1, .ref (H0.size)), (0, .ref (a))] := hl
  refine pb_ic C dX2_turned_8 ?_
  refine pb_istore_n C dX2_turned_9 rfl hl (by decide) rfl fun ls hl => ?_
  have hl : lv_has ls 6 [(2, .int (iZ (0))), (1, .ref (H0.size)), (0, .ref (a))] := hl
  exact pb_V.mono (by omega) (by omega) (L10 _ 0 H0.size H_ rfl hG (by omega) hRb hFF ls (lv_sub hl [2, 1, 0] rfl))

set_option maxHeartbeats 1000000 in
theorem met_X2_shrunk {w : pb_W} (l : Launch) {H0 : Heap} (a : Nat) (P : Nat → Prop) (L : List Bnd) (hR : Rg w H0 P a L) (d : Int) (hd : 0 ≤ d ∧ d ≤ 8) (D1 D2 T : Nat) (K1 K2 : Int) (hT : T ≤ 200) (h1D : D1 ≤ 200) (h1low : K1 - D1 ≤ min (lowF ((recF (-d - 1) (-d - 1) (24 + d + 1) (24 + d + 1)))) (lowF L)) (h1K : ∀ y, y < nhAll ((recF (-d - 1) (-d - 1) (24 + d + 1) (24 + d + 1))) L y → nhAll ((recF (-d - 1) (-d - 1) (24 + d + 1) (24 + d + 1))) L y ≤ K1) (h1E : ∀ y n, n ≤ (rowL ((recF (-d - 1) (-d - 1) (24 + d + 1) (24 + d + 1))) y).length + (rowL L y).length → (cmS 2 (rowL ((recF (-d - 1) (-d - 1) (24 + d + 1) (24 + d + 1))) y) (rowL L y) n).2.2.2.length ≤ 64) (hOO : ∀ O, cmbR 2 (recF (-d - 1) (-d - 1) (24 + d + 1) (24 + d + 1)) L O → (∀ j i, -900 ≤ eE (bE O j) i ∧ eE (bE O j) i ≤ 900) ∧ (∀ j, (-900 ≤ (bd O j).1 ∧ (bd O j).1 ≤ 900) ∧ (-900 ≤ (bd O j).2.1 ∧ (bd O j).2.1 ≤ 900)) ∧ O.length ≤ 26 ∧ growT O d ≤ T ∧ (-800 ≤ lowF O ∧ lowF O ≤ 800) ∧ ∀ y k, k < (wdnF O d O.length).length → ∀ n, n ≤ ((sarF (wdnF O d O.length) y d k)).length + ((bE (wdnF O d O.length) k)).length → (cmS 0 ((sarF (wdnF O d O.length) y d k)) ((bE (wdnF O d O.length) k)) n).2.2.2.length ≤ 64) (hP2 : ∀ O, cmbR 2 (recF (-d - 1) (-d - 1) (24 + d + 1) (24 + d + 1)) L O → (D2 ≤ 200 ∧ K2 - D2 ≤ min (lowF L) (lowF ((groR O d))) ∧ (∀ y, y < nhAll L ((groR O d)) y → nhAll L ((groR O d)) y ≤ K2) ∧ ∀ y n, n ≤ (rowL L y).length + (rowL ((groR O d)) y).length → (cmS 2 (rowL L y) (rowL ((groR O d)) y) n).2.2.2.length ≤ 64)) : pb_M w l yX2_shrunk cX2_shrunk 4 (some (.object "PolygonBoard$Region")) 9 (149 + 9 * D1 + rpC D1 0 + rpC 26 0 + 131 * T + rpC T 0 + 9 * D2 + rpC D2 0) (3239 + 138 * D1 + rpS D1 0 + rpS 26 0 + 3176 * T + rpS T 0 + 138 * D2 + rpS D2 0) [.ref (a), .int (iZ (d))] H0 (pb_qr (fun r H1 => ∃ O Y, cmbR 2 (recF (-d - 1) (-d - 1) (24 + d + 1) (24 + d + 1)) L O ∧ cmbR 2 L (groR O d) Y ∧ Rb w H1 H0.size r Y ∧ pb_F (fun q => q < H0.size) H0 H1)) := by
  refine pb_of (by decide +kernel) (Nat.le_of_ble_eq_true rfl) ?_
  intro p_ e_ s_ m_ ar_ bl_ me_ co_ ls C hh hG hl
  have hl : lv_has ls 4 [(0, .ref (a)), (1, .int (iZ (d)))] := hl
  have hzs := hG.1
  have hFF : pb_F (fun q => q < H0.size) H0 H0 := pb_F.rf
  have hR := hR.below
  obtain ⟨fsR_, hRo⟩ := hR.o
  refine pb_iload_n C dX2_shrunk_0 rfl (lv_at hl 1 rfl) ?_
  refine pb_ineg C dX2_shrunk_1 ?_
  refine pb_ic C dX2_shrunk_2 ?_
  refine pb_isub C dX2_shrunk_3 ?_
  refine pb_iload_n C dX2_shrunk_4 rfl (lv_at hl 1 rfl) ?_
  refine pb_ineg C dX2_shrunk_5 ?_
  refine pb_ic C dX2_shrunk_6 ?_
  refine pb_isub C dX2_shrunk_7 ?_
  refine pb_bip C dX2_shrunk_8 (by decide) ?_
  refine pb_iload_n C dX2_shrunk_10 rfl (lv_at hl 1 rfl) ?_
  refine pb_iadd C dX2_shrunk_11 ?_
  refine pb_ic C dX2_shrunk_12 ?_
  refine pb_iadd C dX2_shrunk_13 ?_
  refine pb_bip C dX2_shrunk_14 (by decide) ?_
  refine pb_iload_n C dX2_shrunk_16 rfl (lv_at hl 1 rfl) ?_
  refine pb_iadd C dX2_shrunk_17 ?_
  refine pb_ic C dX2_shrunk_18 ?_
  refine pb_iadd C dX2_shrunk_19 ?_
  refine pb_go_r (bc' := 149 + 9 * D1 + rpC D1 0 + rpC 26 0 + 131 * T + rpC T 0 + 9 * D2 + rpC D2 0 - 6) (bs' := 3239 + 138 * D1 + rpS D1 0 + rpS 26 0 + 3176 * T + rpS T 0 + 138 * D2 + rpS D2 0 - 27) (pb_runS (rest := []) C hG (met_X2_rectangle l (-d - 1) (-d - 1) (24 + d + 1) (24 + d + 1) (by omega) (by omega) (by omega) (by omega)) (lw_S q900 q400 q55 q401) hdX2_rectangle rfl hl.1 rfl (Nat.le_of_ble_eq_true rfl) ⟨(Nat.le_of_ble_eq_true rfl), (Nat.le_of_ble_eq_true rfl)⟩ dX2_shrunk_20) (by omega) (by omega) (fun q H_ hp_ => ?_)
  obtain ⟨hQ, hF1⟩ := hp_
  have hG := hG.kept (hF1.mono (fun q _ (hq : q < w.2.2.2) => Nat.lt_of_lt_of_le hq hG.1))
  have hFF := hFF.tr (hF1.mono (fun q _ (hq : q < H0.size) => Nat.lt_of_lt_of_le hq hFF.1))
  have hQg := hQ.rg (by exact Nat.le_trans (radd_le _ _ _ _) (by decide))
  refine pb_astore_n C dX2_shrunk_23 rfl hl (by decide) rfl fun ls hl => ?_
  have hl : lv_has ls 4 [(2, .ref (q)), (0, .ref (a)), (1, .int (iZ (d)))] := hl
  refine pb_aload_n C dX2_shrunk_24 rfl (lv_at hl 0 rfl) ?_
  refine pb_aload_n C dX2_shrunk_25 rfl (lv_at hl 1 rfl) ?_
  refine pb_gets C (n := "DIFFERENCE") (v := .ref (w.2.2.1 5)) hG.2.2.2.2.2.2.2.2.2.2.2.1.1 q915 (fun _ h9 => h9) dX2_shrunk_26 ?_
  obtain ⟨fsA_, hAo⟩ := (hQg).o
  refine pb_go_r (bc' := 149 + 9 * D1 + rpC D1 0 + rpC 26 0 + 131 * T + rpC T 0 + 9 * D2 + rpC D2 0 - 6 - ((4 + 9 * D1 + rpC D1 0))) (bs' := 3239 + 138 * D1 + rpS D1 0 + rpS 26 0 + 3176 * T + rpS T 0 + 138 * D2 + rpS D2 0 - 27 - ((12 + 138 * D1 + rpS D1 0))) (pb_runV (rest := []) C hG (met_X2_combine l q a 2 (by decide) _ _ ((recF (-d - 1) (-d - 1) (24 + d + 1) (24 + d + 1))) L (hQg) (hR.kept hFF) D1 K1 h1D h1low h1K h1E) hAo (ci := 1) rfl (lw_V q903 q665 q666 q55 q667) ⟨rfl, hdX2_combine⟩ rfl hl.1 rfl (Nat.le_of_ble_eq_true rfl) ⟨(Nat.le_of_ble_eq_true rfl), (Nat.le_of_ble_eq_true rfl)⟩ dX2_shrunk_29) (by omega) (by omega) (fun o9 H_ hp_ => ?_)
  have hz3 := hFF.1
  obtain ⟨N_, hN1, hN2, hCb, hF1⟩ := hp_
  have hG := hG.kept (hF1.mono (fun q _ (hq : q < w.2.2.2) => Nat.lt_of_lt_of_le hq hG.1))
  have hFF := hFF.tr (hF1.mono (fun q _ (hq : q < H0.size) => Nat.lt_of_lt_of_le hq hFF.1))
  have hC : cmbR 2 ((recF (-d - 1) (-d - 1) (24 + d + 1) (24 + d + 1))) L _ := ⟨N_, hN1, rfl⟩
  refine pb_astore_n C dX2_shrunk_32 rfl hl (by decide) rfl fun ls hl => ?_
  have hl : lv_has ls 4 [(3, .ref (o9)), (2, .ref (q)), (0, .ref (a)), (1, .int (iZ (d)))] := hl
  refine pb_aload_n C dX2_shrunk_33 rfl (lv_at hl 2 rfl) ?_
  refine pb_aload_n C dX2_shrunk_34 rfl (lv_at hl 0 rfl) ?_
  refine pb_iload_n C dX2_shrunk_35 rfl (lv_at hl 3 rfl) ?_
  obtain ⟨p1, p2, p3, p4, p5, p6⟩ := hOO _ hC
  have hOg := hCb.rg (by omega)
  obtain ⟨fsO_, hOgo⟩ := hOg.o
  obtain ⟨OO, hOe⟩ : ∃ OO, OO = (rcm 2 (recF (-d - 1) (-d - 1) (24 + d + 1) (24 + d + 1)) L N_).2 := ⟨_, rfl⟩
  rw [← hOe] at hC hCb hOg p1 p2 p3 p4 p5 p6
  have p7 := rpC_le p4
  have p8 := rpS_le p4
  have hz2 := hFF.1
  refine pb_go_r (bc' := 149 + 9 * D1 + rpC D1 0 + rpC 26 0 + 131 * T + rpC T 0 + 9 * D2 + rpC D2 0 - 6 - ((4 + 9 * D1 + rpC D1 0)) - ((135 + rpC 26 0 + 131 * growT OO d + rpC (growT OO d) 0))) (bs' := 3239 + 138 * D1 + rpS D1 0 + rpS 26 0 + 3176 * T + rpS T 0 + 138 * D2 + rpS D2 0 - 27 - ((12 + 138 * D1 + rpS D1 0)) - ((3188 + rpS 26 0 + 3176 * growT OO d + rpS (growT OO d) 0))) (pb_runV (rest := [.ref (a)]) C hG (met_X2_grown l o9 _ OO hOg d (by omega) p1 p2 p3 (by omega) p5 p6) hOgo (ci := 1) rfl (lw_V q916 q873 q874 q55 q875) ⟨rfl, hdX2_grown⟩ rfl hl.1 rfl (Nat.le_of_ble_eq_true rfl) ⟨(Nat.le_of_ble_eq_true rfl), (Nat.le_of_ble_eq_true rfl)⟩ dX2_shrunk_36) (by omega) (by omega) (fun g9 H_ hp_ => ?_)
  have hz1 := hFF.1
  obtain ⟨hGr, hF1⟩ := hp_
  have hG := hG.kept (hF1.mono (fun q _ (hq : q < w.2.2.2) => Nat.lt_of_lt_of_le hq hG.1))
  have hFF := hFF.tr (hF1.mono (fun q _ (hq : q < H0.size) => Nat.lt_of_lt_of_le hq hFF.1))
  have hgl := groF_len (wdnF OO d OO.length) (lowF OO - d) d (growT OO d)
  have hGg := hGr.rg (by have : (groR OO d).length ≤ growT OO d := hgl; omega)
  obtain ⟨c1, c2, c3, c4⟩ := hP2 _ hC
  refine pb_gets C (n := "DIFFERENCE") (v := .ref (w.2.2.1 5)) hG.2.2.2.2.2.2.2.2.2.2.2.1.1 q915 (fun _ h9 => h9) dX2_shrunk_39 ?_
  obtain ⟨fsA_, hAo⟩ := (hR.kept hFF).o
  refine pb_go_r (bc' := 149 + 9 * D1 + rpC D1 0 + rpC 26 0 + 131 * T + rpC T 0 + 9 * D2 + rpC D2 0 - 6 - ((4 + 9 * D1 + rpC D1 0)) - ((135 + rpC 26 0 + 131 * growT OO d + rpC (growT OO d) 0)) - ((4 + 9 * D2 + rpC D2 0))) (bs' := 3239 + 138 * D1 + rpS D1 0 + rpS 26 0 + 3176 * T + rpS T 0 + 138 * D2 + rpS D2 0 - 27 - ((12 + 138 * D1 + rpS D1 0)) - ((3188 + rpS 26 0 + 3176 * growT OO d + rpS (growT OO d) 0)) - ((12 + 138 * D2 + rpS D2 0))) (pb_runV (rest := []) C hG (met_X2_combine l a g9 2 (by decide) _ _ L (groR OO d) (hR.kept hFF) hGg D2 K2 c1 c2 c3 c4) hAo (ci := 1) rfl (lw_V q903 q665 q666 q55 q667) ⟨rfl, hdX2_combine⟩ rfl hl.1 rfl (Nat.le_of_ble_eq_true rfl) ⟨(Nat.le_of_ble_eq_true rfl), (Nat.le_of_ble_eq_true rfl)⟩ dX2_shrunk_42) (by omega) (by omega) (fun r9 H_ hp_ => ?_)
  have hz3 := hFF.1
  obtain ⟨N_, hN1, hN2, hC2b, hF1⟩ := hp_
  have hG := hG.kept (hF1.mono (fun q _ (hq : q < w.2.2.2) => Nat.lt_of_lt_of_le hq hG.1))
  have hFF := hFF.tr (hF1.mono (fun q _ (hq : q < H0.size) => Nat.lt_of_lt_of_le hq hFF.1))
  have hC2 : cmbR 2 L ((groR OO d)) _ := ⟨N_, hN1, rfl⟩
  exact pb_aret C (Or.inl ⟨_, rfl⟩) dX2_shrunk_45 (Or.inr ⟨_, rfl⟩) (⟨_, rfl, OO, _, hC, hC2, hC2b.lw hz3, hFF⟩)

