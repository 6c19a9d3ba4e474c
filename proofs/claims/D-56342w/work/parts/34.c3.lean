set_option maxRecDepth 100000
set_option maxHeartbeats 1000000 in
theorem met_X4_widened {w : pb_W} (l : Launch) {H0 : Heap} (a : Nat) (P : Nat → Prop) (E : List Int) (hS : Sp w H0 P a E) (d : Int) (hd : -50 ≤ d ∧ d ≤ 50) (hb9 : ∀ i, -900 ≤ eE E i ∧ eE E i ≤ 900) (hL : ∀ k, k ≤ E.length / 2 → (mvE E (-d) d k).length ≤ 64) : pb_M w l yX4_widened cX4_widened 4 (some (.object "PolygonBoard$Spans")) 3 (5) (122) [.ref (a), .int (iZ (d))] H0 (pb_qr (fun b H1 => ∃ m, Sb w H1 H0.size b (mvE E (-d) d (E.length / 2)) m ∧ pb_F (fun q => q < H0.size) H0 H1)) := by
  refine pb_of (by decide +kernel) (Nat.le_of_ble_eq_true rfl) ?_
  intro p_ e_ s_ m_ ar_ bl_ me_ co_ ls C hh hG hl
  have hl : lv_has ls 4 [(0, .ref (a)), (1, .int (iZ (d)))] := hl
  have hzs := hG.1
  have hS := hS.below
  have hFF : pb_F (fun q => q < H0.size) H0 H0 := pb_F.rf
  obtain ⟨hrgE, hE64⟩ := hS.rg
  have L10 : ∀ (n_ : Nat) (k m b : Nat) (H : Heap), E.length / 2 - k = n_ → (pb_G w s_ H) → (k ≤ E.length / 2) → (Sb w H H0.size b (mvE E (-d) d k) m) → (pb_F (fun q => q < H0.size) H0 H) → ∀ (ls : Array Slot), lv_has ls 4 [(0, .ref (a)), (1, .int (iZ (d))), (2, .ref (b)), (3, .int (iZ (((k : Nat) : Int))))] → pb_V w.2.2.2 p_ l e_ (pb_rm 3 (5) (122)) s_ m_ ar_ bl_ me_ co_ H (potc m) (pot m) (pb_E w bl_ ar_ s_ (5) (122) (pb_qr (fun b H1 => ∃ m, Sb w H1 H0.size b (mvE E (-d) d (E.length / 2)) m ∧ pb_F (fun q => q < H0.size) H0 H1))) (F0 m_ 10 ls []) := by
    intro n_
    induction n_ using Nat.strongRecOn with
    | _ n_ ih10 =>
    intro k m b H hm_ hG hk hSb hFF ls hl
    have hS := hS.kept hFF
    obtain ⟨fsa_, hRa⟩ := hS.o
    have hp8 : potc 8 = 3 ∧ pot 8 = 112 := ⟨rfl, rfl⟩
    refine pb_iload_n C dX4_widened_10 rfl (lv_at hl 3 rfl) ?_
    refine pb_aload_n C dX4_widened_11 rfl (lv_at hl 0 rfl) ?_
    refine pb_go_x (bc' := potc m) (bs' := pot m) (pb_runV (rest := [.int (iZ (((k : Nat) : Int)))]) C hG (met_X4_size l a (fun q => q < H0.size) E hS) hRa (ci := 3) rfl (lw_V q880 q428 q429 q70 q430) ⟨rfl, hdX4_size⟩ rfl hl.1 rfl (Nat.le_of_ble_eq_true rfl) ⟨(Nat.le_of_ble_eq_true rfl), (Nat.le_of_ble_eq_true rfl)⟩ dX4_widened_12) (by omega) (by omega) ?_
    refine pb_icmp_ge C dX4_widened_15 (x := ((k : Nat) : Int)) (y := (((E.length / 2) : Nat) : Int)) (tgt := 42) (by decide) (by omega) (by omega) (fun c15_ => ?_) (fun c15_ => ?_)
    · refine pb_aload_n C dX4_widened_42 rfl (lv_at hl 2 rfl) ?_
      exact pb_aret C (Or.inl ⟨_, rfl⟩) dX4_widened_43 (Or.inr ⟨_, rfl⟩) (⟨_, rfl, m, by rw [← show k = E.length / 2 from by omega]; exact hSb, hFF⟩)
    · have hr1 := hb9 (2 * k)
      have hr2 := hb9 (2 * k + 1)
      have hL1 := hL (k + 1) (by omega)
      rw [mvE, ← Int.sub_eq_add_neg] at hL1
      obtain ⟨fs_, hR_⟩ := hSb.o
      have hpot := sp_pot (E := (mvE E (-d) d k)) (l := (eE E (2 * k) - d)) (r := (eE E (2 * k + 1) + d)) hSb.m8 hL1
      refine pb_aload_n C dX4_widened_18 rfl (lv_at hl 2 rfl) ?_
      refine pb_aload_n C dX4_widened_19 rfl (lv_at hl 0 rfl) ?_
      refine pb_iload_n C dX4_widened_20 rfl (lv_at hl 3 rfl) ?_
      refine pb_go_x (bc' := potc m) (bs' := pot m) (pb_runV (rest := [.ref (b)]) C hG (met_X4_left l a (fun q => q < H0.size) E hS k (by omega)) hRa (ci := 3) rfl (lw_V q881 q588 q589 q70 q590) ⟨rfl, hdX4_left⟩ rfl hl.1 rfl (Nat.le_of_ble_eq_true rfl) ⟨(Nat.le_of_ble_eq_true rfl), (Nat.le_of_ble_eq_true rfl)⟩ dX4_widened_21) (by omega) (by omega) ?_
      refine pb_iload_n C dX4_widened_24 rfl (lv_at hl 1 rfl) ?_
      refine pb_isub C dX4_widened_25 ?_
      refine pb_aload_n C dX4_widened_26 rfl (lv_at hl 0 rfl) ?_
      refine pb_iload_n C dX4_widened_27 rfl (lv_at hl 3 rfl) ?_
      refine pb_go_x (bc' := potc m) (bs' := pot m) (pb_runV (rest := [.int (iZ (((eE E (2 * k)) - d))), .ref (b)]) C hG (met_X4_right l a (fun q => q < H0.size) E hS k (by omega)) hRa (ci := 3) rfl (lw_V q882 q592 q593 q70 q594) ⟨rfl, hdX4_right⟩ rfl hl.1 rfl (Nat.le_of_ble_eq_true rfl) ⟨(Nat.le_of_ble_eq_true rfl), (Nat.le_of_ble_eq_true rfl)⟩ dX4_widened_28) (by omega) (by omega) ?_
      refine pb_iload_n C dX4_widened_31 rfl (lv_at hl 1 rfl) ?_
      refine pb_iadd C dX4_widened_32 ?_
      refine pb_go_v (bc' := potc m - ((spc ((mvE E (-d) d k)) ((eE E (2 * k) - d)) ((eE E (2 * k + 1) + d)) m))) (bs' := pot m - ((sps ((mvE E (-d) d k)) ((eE E (2 * k) - d)) ((eE E (2 * k + 1) + d)) m))) (pb_runV (rest := []) C hG (met_X4_add l H0.size b m ((mvE E (-d) d k)) (by omega) hSb ((eE E (2 * k) - d)) ((eE E (2 * k + 1) + d)) (by omega) (by omega) hL1) hR_ (ci := 3) rfl (lw_V q715 q419 q420 q70 q421) ⟨rfl, hdX4_add⟩ rfl hl.1 rfl (Nat.le_of_ble_eq_true rfl) ⟨(Nat.le_of_ble_eq_true rfl), (Nat.le_of_ble_eq_true rfl)⟩ dX4_widened_33) (by omega) (by omega) (fun H_ hp_ => ?_)
      obtain ⟨hSb, hF1⟩ := hp_
      have hG := hG.kept (hF1.mono (fun q _ (hq : q < w.2.2.2) => show q < _ from by omega))
      have hFF := hFF.tr hF1
      refine pb_iinc C dX4_widened_36 hl (j := 3) (x := (((k : Nat) : Int))) rfl (by decide) rfl fun ls hl => ?_
      have hl : lv_has ls 4 [(3, .int (iZ ((((k + 1) : Nat) : Int)))), (0, .ref (a)), (1, .int (iZ (d))), (2, .ref (b))] := hl
      refine pb_goto C dX4_widened_39 (tgt := 10) (by decide) ?_
      exact pb_V.mono (by omega) (by omega) (ih10 _ (by omega) (k + 1) (spm (mvE E (-d) d k) (eE E (2 * k) - d) (eE E (2 * k + 1) + d) m) b H_ rfl hG (by omega) (by rw [mvE, ← Int.sub_eq_add_neg]; exact hSb) hFF ls (lv_sub hl [1, 2, 3, 0] rfl))
  refine pb_newE C in_X4 tyX4 tyX4_ok (ci := 3) rfl q698 q405 q70 (fs := [.null, .int (iZ (0))]) (by decide) (bc' := 4) (bs' := 120) (by omega) (by omega) dX4_widened_0 fun a1_ H1_ ha_ hn_ hN1_ => ?_
  have hs1_ : H1_.size = H0.size + 1 := hn_.1
  have hG := hG.kept (hn_.f.mono (fun _ _ _ => trivial))
  have hFF := hFF.tr (hn_.f.mono (fun _ _ _ => trivial))
  have a1__e : a1_ = H0.size := ha_
  refine pb_dup C dX4_widened_3 rfl ?_
  refine pb_go_v (bc' := 3) (bs' := 112) (pb_runI (rest := [.ref (a1_)]) C hG (met_X4_init l H0.size a1_ (by omega) (by omega) hN1_) q699 q407 q70 q408 rfl hdX4_init rfl hl.1 rfl (Nat.le_of_ble_eq_true rfl) ⟨(Nat.le_of_ble_eq_true rfl), (Nat.le_of_ble_eq_true rfl)⟩ dX4_widened_4) (by omega) (by omega) (fun H_ hp_ => ?_)
  obtain ⟨hSb, hF1⟩ := hp_
  have hG := hG.kept (hF1.mono (fun q _ (hq : q < w.2.2.2) => show q ≠ _ from by omega))
  have hFF := hFF.tr (hF1.mono (fun q _ (hq : q < H0.size) => show q ≠ _ from by omega))
  refine pb_astore_n C dX4_widened_7 rfl hl (by decide) rfl fun ls hl => ?_
  have hl : lv_has ls 4 [(2, .ref (a1_)), (0, .ref (a)), (1, .int (iZ (d)))] := hl
  have hp8 : potc 8 = 3 ∧ pot 8 = 112 := ⟨rfl, rfl⟩
  refine pb_ic C dX4_widened_8 ?_
  refine pb_istore_n C dX4_widened_9 rfl hl (by decide) rfl fun ls hl => ?_
  have hl : lv_has ls 4 [(3, .int (iZ (0))), (2, .ref (a1_)), (0, .ref (a)), (1, .int (iZ (d)))] := hl
  exact pb_V.mono (by omega) (by omega) (L10 _ 0 8 a1_ H_ rfl hG (by omega) hSb hFF ls (lv_sub hl [2, 3, 1, 0] rfl))

set_option maxHeartbeats 1000000 in
theorem met_X4_moved {w : pb_W} (l : Launch) {H0 : Heap} (a : Nat) (P : Nat → Prop) (E : List Int) (hS : Sp w H0 P a E) (d : Int) (hd : -50 ≤ d ∧ d ≤ 50) (hb9 : ∀ i, -900 ≤ eE E i ∧ eE E i ≤ 900) (hL : ∀ k, k ≤ E.length / 2 → (mvE E d d k).length ≤ 64) : pb_M w l yX4_moved cX4_moved 4 (some (.object "PolygonBoard$Spans")) 3 (5) (122) [.ref (a), .int (iZ (d))] H0 (pb_qr (fun b H1 => ∃ m, Sb w H1 H0.size b (mvE E d d (E.length / 2)) m ∧ pb_F (fun q => q < H0.size) H0 H1)) := by
  refine pb_of (by decide +kernel) (Nat.le_of_ble_eq_true rfl) ?_
  intro p_ e_ s_ m_ ar_ bl_ me_ co_ ls C hh hG hl
  have hl : lv_has ls 4 [(0, .ref (a)), (1, .int (iZ (d)))] := hl
  have hzs := hG.1
  have hS := hS.below
  have hFF : pb_F (fun q => q < H0.size) H0 H0 := pb_F.rf
  obtain ⟨hrgE, hE64⟩ := hS.rg
  have L10 : ∀ (n_ : Nat) (k m b : Nat) (H : Heap), E.length / 2 - k = n_ → (pb_G w s_ H) → (k ≤ E.length / 2) → (Sb w H H0.size b (mvE E d d k) m) → (pb_F (fun q => q < H0.size) H0 H) → ∀ (ls : Array Slot), lv_has ls 4 [(0, .ref (a)), (1, .int (iZ (d))), (2, .ref (b)), (3, .int (iZ (((k : Nat) : Int))))] → pb_V w.2.2.2 p_ l e_ (pb_rm 3 (5) (122)) s_ m_ ar_ bl_ me_ co_ H (potc m) (pot m) (pb_E w bl_ ar_ s_ (5) (122) (pb_qr (fun b H1 => ∃ m, Sb w H1 H0.size b (mvE E d d (E.length / 2)) m ∧ pb_F (fun q => q < H0.size) H0 H1))) (F0 m_ 10 ls []) := by
    intro n_
    induction n_ using Nat.strongRecOn with
    | _ n_ ih10 =>
    intro k m b H hm_ hG hk hSb hFF ls hl
    have hS := hS.kept hFF
    obtain ⟨fsa_, hRa⟩ := hS.o
    have hp8 : potc 8 = 3 ∧ pot 8 = 112 := ⟨rfl, rfl⟩
    refine pb_iload_n C dX4_moved_10 rfl (lv_at hl 3 rfl) ?_
    refine pb_aload_n C dX4_moved_11 rfl (lv_at hl 0 rfl) ?_
    refine pb_go_x (bc' := potc m) (bs' := pot m) (pb_runV (rest := [.int (iZ (((k : Nat) : Int)))]) C hG (met_X4_size l a (fun q => q < H0.size) E hS) hRa (ci := 3) rfl (lw_V q880 q428 q429 q70 q430) ⟨rfl, hdX4_size⟩ rfl hl.1 rfl (Nat.le_of_ble_eq_true rfl) ⟨(Nat.le_of_ble_eq_true rfl), (Nat.le_of_ble_eq_true rfl)⟩ dX4_moved_12) (by omega) (by omega) ?_
    refine pb_icmp_ge C dX4_moved_15 (x := ((k : Nat) : Int)) (y := (((E.length / 2) : Nat) : Int)) (tgt := 42) (by decide) (by omega) (by omega) (fun c15_ => ?_) (fun c15_ => ?_)
    · refine pb_aload_n C dX4_moved_42 rfl (lv_at hl 2 rfl) ?_
      exact pb_aret C (Or.inl ⟨_, rfl⟩) dX4_moved_43 (Or.inr ⟨_, rfl⟩) (⟨_, rfl, m, by rw [← show k = E.length / 2 from by omega]; exact hSb, hFF⟩)
    · have hr1 := hb9 (2 * k)
      have hr2 := hb9 (2 * k + 1)
      have hL1 := hL (k + 1) (by omega)
      rw [mvE] at hL1
      obtain ⟨fs_, hR_⟩ := hSb.o
      have hpot := sp_pot (E := (mvE E d d k)) (l := (eE E (2 * k) + d)) (r := (eE E (2 * k + 1) + d)) hSb.m8 hL1
      refine pb_aload_n C dX4_moved_18 rfl (lv_at hl 2 rfl) ?_
      refine pb_aload_n C dX4_moved_19 rfl (lv_at hl 0 rfl) ?_
      refine pb_iload_n C dX4_moved_20 rfl (lv_at hl 3 rfl) ?_
      refine pb_go_x (bc' := potc m) (bs' := pot m) (pb_runV (rest := [.ref (b)]) C hG (met_X4_left l a (fun q => q < H0.size) E hS k (by omega)) hRa (ci := 3) rfl (lw_V q881 q588 q589 q70 q590) ⟨rfl, hdX4_left⟩ rfl hl.1 rfl (Nat.le_of_ble_eq_true rfl) ⟨(Nat.le_of_ble_eq_true rfl), (Nat.le_of_ble_eq_true rfl)⟩ dX4_moved_21) (by omega) (by omega) ?_
      refine pb_iload_n C dX4_moved_24 rfl (lv_at hl 1 rfl) ?_
      refine pb_iadd C dX4_moved_25 ?_
      refine pb_aload_n C dX4_moved_26 rfl (lv_at hl 0 rfl) ?_
      refine pb_iload_n C dX4_moved_27 rfl (lv_at hl 3 rfl) ?_
      refine pb_go_x (bc' := potc m) (bs' := pot m) (pb_runV (rest := [.int (iZ (((eE E (2 * k)) + d))), .ref (b)]) C hG (met_X4_right l a (fun q => q < H0.size) E hS k (by omega)) hRa (ci := 3) rfl (lw_V q882 q592 q593 q70 q594) ⟨rfl, hdX4_right⟩ rfl hl.1 rfl (Nat.le_of_ble_eq_true rfl) ⟨(Nat.le_of_ble_eq_true rfl), (Nat.le_of_ble_eq_true rfl)⟩ dX4_moved_28) (by omega) (by omega) ?_
      refine pb_iload_n C dX4_moved_31 rfl (lv_at hl 1 rfl) ?_
      refine pb_iadd C dX4_moved_32 ?_
      refine pb_go_v (bc' := potc m - ((spc ((mvE E d d k)) ((eE E (2 * k) + d)) ((eE E (2 * k + 1) + d)) m))) (bs' := pot m - ((sps ((mvE E d d k)) ((eE E (2 * k) + d)) ((eE E (2 * k + 1) + d)) m))) (pb_runV (rest := []) C hG (met_X4_add l H0.size b m ((mvE E d d k)) (by omega) hSb ((eE E (2 * k) + d)) ((eE E (2 * k + 1) + d)) (by omega) (by omega) hL1) hR_ (ci := 3) rfl (lw_V q715 q419 q420 q70 q421) ⟨rfl, hdX4_add⟩ rfl hl.1 rfl (Nat.le_of_ble_eq_true rfl) ⟨(Nat.le_of_ble_eq_true rfl), (Nat.le_of_ble_eq_true rfl)⟩ dX4_moved_33) (by omega) (by omega) (fun H_ hp_ => ?_)
      obtain ⟨hSb, hF1⟩ := hp_
      have hG := hG.kept (hF1.mono (fun q _ (hq : q < w.2.2.2) => show q < _ from by omega))
      have hFF := hFF.tr hF1
      refine pb_iinc C dX4_moved_36 hl (j := 3) (x := (((k : Nat) : Int))) rfl (by decide) rfl fun ls hl => ?_
      have hl : lv_has ls 4 [(3, .int (iZ ((((k + 1) : Nat) : Int)))), (0, .ref (a)), (1, .int (iZ (d))), (2, .ref (b))] := hl
      refine pb_goto C dX4_moved_39 (tgt := 10) (by decide) ?_
      exact pb_V.mono (by omega) (by omega) (ih10 _ (by omega) (k + 1) (spm (mvE E d d k) (eE E (2 * k) + d) (eE E (2 * k + 1) + d) m) b H_ rfl hG (by omega) (by rw [mvE]; exact hSb) hFF ls (lv_sub hl [1, 2, 3, 0] rfl))
  refine pb_newE C in_X4 tyX4 tyX4_ok (ci := 3) rfl q698 q405 q70 (fs := [.null, .int (iZ (0))]) (by decide) (bc' := 4) (bs' := 120) (by omega) (by omega) dX4_moved_0 fun a1_ H1_ ha_ hn_ hN1_ => ?_
  have hs1_ : H1_.size = H0.size + 1 := hn_.1
  have hG := hG.kept (hn_.f.mono (fun _ _ _ => trivial))
  have hFF := hFF.tr (hn_.f.mono (fun _ _ _ => trivial))
  have a1__e : a1_ = H0.size := ha_
  refine pb_dup C dX4_moved_3 rfl ?_
  refine pb_go_v (bc' := 3) (bs' := 112) (pb_runI (rest := [.ref (a1_)]) C hG (met_X4_init l H0.size a1_ (by omega) (by omega) hN1_) q699 q407 q70 q408 rfl hdX4_init rfl hl.1 rfl (Nat.le_of_ble_eq_true rfl) ⟨(Nat.le_of_ble_eq_true rfl), (Nat.le_of_ble_eq_true rfl)⟩ dX4_moved_4) (by omega) (by omega) (fun H_ hp_ => ?_)
  obtain ⟨hSb, hF1⟩ := hp_
  have hG := hG.kept (hF1.mono (fun q _ (hq : q < w.2.2.2) => show q ≠ _ from by omega))
  have hFF := hFF.tr (hF1.mono (fun q _ (hq : q < H0.size) => show q ≠ _ from by omega))
  refine pb_astore_n C dX4_moved_7 rfl hl (by decide) rfl fun ls hl => ?_
  have hl : lv_has ls 4 [(2, .ref (a1_)), (0, .ref (a)), (1, .int (iZ (d)))] := hl
  have hp8 : potc 8 = 3 ∧ pot 8 = 112 := ⟨rfl, rfl⟩
  refine pb_ic C dX4_moved_8 ?_
  refine pb_istore_n C dX4_moved_9 rfl hl (by decide) rfl fun ls hl => ?_
  have hl : lv_has ls 4 [(3, .int (iZ (0))), (2, .ref (a1_)), (0, .ref (a)), (1, .int (iZ (d)))] := hl
  exact pb_V.mono (by omega) (by omega) (L10 _ 0 8 a1_ H_ rfl hG (by omega) hSb hFF ls (lv_sub hl [2, 3, 1, 0] rfl))

set_option maxHeartbeats 1000000 in
theorem met_X4_mirrored {w : pb_W} (l : Launch) {H0 : Heap} (a : Nat) (P : Nat → Prop) (E : List Int) (hS : Sp w H0 P a E) (hb9 : ∀ i, -900 ≤ eE E i ∧ eE E i ≤ 900) (hL : ∀ k, k ≤ E.length / 2 → (mrE E (E.length / 2) k).length ≤ 64) : pb_M w l yX4_mirrored cX4_mirrored 3 (some (.object "PolygonBoard$Spans")) 3 (5) (122) [.ref (a)] H0 (pb_qr (fun b H1 => ∃ m, Sb w H1 H0.size b (mrE E (E.length / 2) (E.length / 2)) m ∧ pb_F (fun q => q < H0.size) H0 H1)) := by
  refine pb_of (by decide +kernel) (Nat.le_of_ble_eq_true rfl) ?_
  intro p_ e_ s_ m_ ar_ bl_ me_ co_ ls C hh hG hl
  have hl : lv_has ls 3 [(0, .ref (a))] := hl
  have hzs := hG.1
  have hS := hS.below
  have hFF : pb_F (fun q => q < H0.size) H0 H0 := pb_F.rf
  obtain ⟨hrgE, hE64⟩ := hS.rg
  have L15 : ∀ (n_ : Nat) (k m b : Nat) (H : Heap), (E.length / 2) - k = n_ → (pb_G w s_ H) → (k ≤ (E.length / 2)) → (Sb w H H0.size b (mrE E (E.length / 2) k) m) → (pb_F (fun q => q < H0.size) H0 H) → ∀ (ls : Array Slot), lv_has ls 3 [(0, .ref (a)), (1, .ref (b)), (2, .int (iZ (((((E.length / 2) : Nat) : Int) - 1 - ((k : Nat) : Int)))))] → pb_V w.2.2.2 p_ l e_ (pb_rm 3 (5) (122)) s_ m_ ar_ bl_ me_ co_ H (potc m) (pot m) (pb_E w bl_ ar_ s_ (5) (122) (pb_qr (fun b H1 => ∃ m, Sb w H1 H0.size b (mrE E (E.length / 2) (E.length / 2)) m ∧ pb_F (fun q => q < H0.size) H0 H1))) (F0 m_ 15 ls []) := by
    intro n_
    induction n_ using Nat.strongRecOn with
    | _ n_ ih15 =>
    intro k m b H hm_ hG hk hSb hFF ls hl
    have hS := hS.kept hFF
    obtain ⟨fsa_, hRa⟩ := hS.o
    refine pb_iload_n C dX4_mirrored_15 rfl (lv_at hl 2 rfl) ?_
    refine pb_if_lt C dX4_mirrored_16 (x := ((((E.length / 2) : Nat) : Int) - 1 - ((k : Nat) : Int))) (tgt := 45) (by decide) (by omega) (fun c16_ => ?_) (fun c16_ => ?_)
    · have hk9 : k = E.length / 2 := by omega
      refine pb_aload_n C dX4_mirrored_45 rfl (lv_at hl 1 rfl) ?_
      exact pb_aret C (Or.inl ⟨_, rfl⟩) dX4_mirrored_46 (Or.inr ⟨_, rfl⟩) (⟨_, rfl, m, (by rw [hk9] at hSb; exact hSb), hFF⟩)
    · have hr1 := hb9 (2 * ((E.length / 2) - 1 - k))
      have hr2 := hb9 (2 * ((E.length / 2) - 1 - k) + 1)
      have hL1 := hL (k + 1) (by omega)
      rw [mrE] at hL1
      obtain ⟨fs_, hR_⟩ := hSb.o
      have hpot := sp_pot (E := (mrE E (E.length / 2) k)) (l := (24 - eE E (2 * ((E.length / 2) - 1 - k) + 1))) (r := (24 - eE E (2 * ((E.length / 2) - 1 - k)))) hSb.m8 hL1
      refine pb_aload_n C dX4_mirrored_19 rfl (lv_at hl 1 rfl) ?_
      refine pb_bip C dX4_mirrored_20 (by decide) ?_
      refine pb_aload_n C dX4_mirrored_22 rfl (lv_at hl 0 rfl) ?_
      refine pb_iload_n C dX4_mirrored_23 rfl (lv_at hl 2 rfl) ?_
      refine pb_eq (g2 := F0 m_ 24 ls [.int (iZ (((((E.length / 2) - 1 - k) : Nat) : Int))), .ref (a), .int (iZ (24)), .ref (b)]) (congrArg (fun z9 => F0 m_ 24 ls [.int (iZ z9), .ref (a), .int (iZ (24)), .ref (b)]) (show ((((E.length / 2) : Nat) : Int) - 1 - ((k : Nat) : Int)) = ((((E.length / 2) - 1 - k) : Nat) : Int) from (by omega))) ?_
      refine pb_go_x (bc' := potc m) (bs' := pot m) (pb_runV (rest := [.int (iZ (24)), .ref (b)]) C hG (met_X4_right l a (fun q => q < H0.size) E hS ((E.length / 2) - 1 - k) (by omega)) hRa (ci := 3) rfl (lw_V q882 q592 q593 q70 q594) ⟨rfl, hdX4_right⟩ rfl hl.1 rfl (Nat.le_of_ble_eq_true rfl) ⟨(Nat.le_of_ble_eq_true rfl), (Nat.le_of_ble_eq_true rfl)⟩ dX4_mirrored_24) (by omega) (by omega) ?_
      refine pb_isub C dX4_mirrored_27 ?_
      refine pb_bip C dX4_mirrored_28 (by decide) ?_
      refine pb_aload_n C dX4_mirrored_30 rfl (lv_at hl 0 rfl) ?_
      refine pb_iload_n C dX4_mirrored_31 rfl (lv_at hl 2 rfl) ?_
      refine pb_eq (g2 := F0 m_ 32 ls [.int (iZ (((((E.length / 2) - 1 - k) : Nat) : Int))), .ref (a), .int (iZ (24)), .int (iZ ((24 - (eE E (2 * ((E.length / 2) - 1 - k) + 1))))), .ref (b)]) (congrArg (fun z9 => F0 m_ 32 ls [.int (iZ z9), .ref (a), .int (iZ (24)), .int (iZ ((24 - (eE E (2 * ((E.length / 2) - 1 - k) + 1))))), .ref (b)]) (show ((((E.length / 2) : Nat) : Int) - 1 - ((k : Nat) : Int)) = ((((E.length / 2) - 1 - k) : Nat) : Int) from (by omega))) ?_
      refine pb_go_x (bc' := potc m) (bs' := pot m) (pb_runV (rest := [.int (iZ (24)), .int (iZ ((24 - (eE E (2 * ((E.length / 2) - 1 - k) + 1))))), .ref (b)]) C hG (met_X4_left l a (fun q => q < H0.size) E hS ((E.length / 2) - 1 - k) (by omega)) hRa (ci := 3) rfl (lw_V q881 q588 q589 q70 q590) ⟨rfl, hdX4_left⟩ rfl hl.1 rfl (Nat.le_of_ble_eq_true rfl) ⟨(Nat.le_of_ble_eq_true rfl), (Nat.le_of_ble_eq_true rfl)⟩ dX4_mirrored_32) (by omega) (by omega) ?_
      refine pb_isub C dX4_mirrored_35 ?_
      refine pb_go_v (bc' := potc m - ((spc ((mrE E (E.length / 2) k)) ((24 - eE E (2 * ((E.length / 2) - 1 - k) + 1))) ((24 - eE E (2 * ((E.length / 2) - 1 - k)))) m))) (bs' := pot m - ((sps ((mrE E (E.length / 2) k)) ((24 - eE E (2 * ((E.length / 2) - 1 - k) + 1))) ((24 - eE E (2 * ((E.length / 2) - 1 - k)))) m))) (pb_runV (rest := []) C hG (met_X4_add l H0.size b m ((mrE E (E.length / 2) k)) (by omega) hSb ((24 - eE E (2 * ((E.length / 2) - 1 - k) + 1))) ((24 - eE E (2 * ((E.length / 2) - 1 - k)))) (by omega) (by omega) hL1) hR_ (ci := 3) rfl (lw_V q715 q419 q420 q70 q421) ⟨rfl, hdX4_add⟩ rfl hl.1 rfl (Nat.le_of_ble_eq_true rfl) ⟨(Nat.le_of_ble_eq_true rfl), (Nat.le_of_ble_eq_true rfl)⟩ dX4_mirrored_36) (by omega) (by omega) (fun H_ hp_ => ?_)
      obtain ⟨hSb, hF1⟩ := hp_
      have hG := hG.kept (hF1.mono (fun q _ (hq : q < w.2.2.2) => show q < _ from by omega))
      have hFF := hFF.tr hF1
      refine pb_iinc C dX4_mirrored_39 hl (j := 2) (x := (((((E.length / 2) : Nat) : Int) - 1 - ((k : Nat) : Int)))) rfl (by decide) rfl fun ls hl => ?_
      have hl : lv_has ls 3 [(2, .int (iZ ((((((E.length / 2) : Nat) : Int) - 1 - ((k : Nat) : Int)) + (-1))))), (0, .ref (a)), (1, .ref (b))] := hl
      rw [show (((((E.length / 2) : Nat) : Int) - 1 - ((k : Nat) : Int)) + (-1)) = ((((E.length / 2) : Nat) : Int) - 1 - ((k + 1 : Nat) : Int)) from by omega] at hl
      refine pb_goto C dX4_mirrored_42 (tgt := 15) (by decide) ?_
      exact pb_V.mono (by omega) (by omega) (ih15 _ (by omega) (k + 1) (spm (mrE E (E.length / 2) k) (24 - eE E (2 * ((E.length / 2) - 1 - k) + 1)) (24 - eE E (2 * ((E.length / 2) - 1 - k))) m) b H_ rfl hG (by omega) (by rw [mrE]; exact hSb) hFF ls (lv_sub hl [1, 2, 0] rfl))
  refine pb_newE C in_X4 tyX4 tyX4_ok (ci := 3) rfl q698 q405 q70 (fs := [.null, .int (iZ (0))]) (by decide) (bc' := 4) (bs' := 120) (by omega) (by omega) dX4_mirrored_0 fun a1_ H1_ ha_ hn_ hN1_ => ?_
  have hs1_ : H1_.size = H0.size + 1 := hn_.1
  have hG := hG.kept (hn_.f.mono (fun _ _ _ => trivial))
  have hFF := hFF.tr (hn_.f.mono (fun _ _ _ => trivial))
  have a1__e : a1_ = H0.size := ha_
  refine pb_dup C dX4_mirrored_3 rfl ?_
  refine pb_go_v (bc' := 3) (bs' := 112) (pb_runI (rest := [.ref (a1_)]) C hG (met_X4_init l H0.size a1_ (by omega) (by omega) hN1_) q699 q407 q70 q408 rfl hdX4_init rfl hl.1 rfl (Nat.le_of_ble_eq_true rfl) ⟨(Nat.le_of_ble_eq_true rfl), (Nat.le_of_ble_eq_true rfl)⟩ dX4_mirrored_4) (by omega) (by omega) (fun H_ hp_ => ?_)
  obtain ⟨hSb, hF1⟩ := hp_
  have hG := hG.kept (hF1.mono (fun q _ (hq : q < w.2.2.2) => show q ≠ _ from by omega))
  have hFF := hFF.tr (hF1.mono (fun q _ (hq : q < H0.size) => show q ≠ _ from by omega))
  refine pb_astore_n C dX4_mirrored_7 rfl hl (by decide) rfl fun ls hl => ?_
  have hl : lv_has ls 3 [(1, .ref (a1_)), (0, .ref (a))] := hl
  have hp8 : potc 8 = 3 ∧ pot 8 = 112 := ⟨rfl, rfl⟩
  obtain ⟨fsa_, hRa⟩ := (hS.kept hFF).o
  refine pb_aload_n C dX4_mirrored_8 rfl (lv_at hl 1 rfl) ?_
  refine pb_go_x (bc' := 3) (bs' := 112) (pb_runV (rest := []) C hG (met_X4_size l a (fun q => q < H0.size) E (hS.kept hFF)) hRa (ci := 3) rfl (lw_V q880 q428 q429 q70 q430) ⟨rfl, hdX4_size⟩ rfl hl.1 rfl (Nat.le_of_ble_eq_true rfl) ⟨(Nat.le_of_ble_eq_true rfl), (Nat.le_of_ble_eq_true rfl)⟩ dX4_mirrored_9) (by omega) (by omega) ?_
  refine pb_ic C dX4_mirrored_12 ?_
  refine pb_isub C dX4_mirrored_13 ?_
  refine pb_eq (g2 := F0 m_ 14 ls [.int (iZ (((((E.length / 2) : Nat) : Int) - 1 - ((0 : Nat) : Int))))]) (congrArg (fun z9 => F0 m_ 14 ls [.int (iZ z9)]) (show ((((E.length / 2) : Nat) : Int) - 1) = ((((E.length / 2) : Nat) : Int) - 1 - ((0 : Nat) : Int)) from (by omega))) ?_
  refine pb_istore_n C dX4_mirrored_14 rfl hl (by decide) rfl fun ls hl => ?_
  have hl : lv_has ls 3 [(2, .int (iZ (((((E.length / 2) : Nat) : Int) - 1 - ((0 : Nat) : Int))))), (1, .ref (a1_)), (0, .ref (a))] := hl
  exact pb_V.mono (by omega) (by omega) (L15 _ 0 8 a1_ H_ rfl hG (by omega) hSb hFF ls (lv_sub hl [2, 1, 0] rfl))

