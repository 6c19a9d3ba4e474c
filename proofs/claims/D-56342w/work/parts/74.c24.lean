set_option maxRecDepth 100000
set_option maxHeartbeats 1000000 in
theorem met_X12_countParts {w : pb_W} (l : Launch) {H0 : Heap} (z c r : Nat) (g : Nat → Nat) (co : Bool) (hC : Cb w H0 z c r g) (hz : w.2.2.2 ≤ z) : pb_M w l yX12_countParts cX12_countParts 5 (some .int) 4 (5 * popG g) (97 * popG g) [.ref (c), .int (iZ ((bI (co))))] H0 (pb_qi (fun v H1 => v = ((ctP g co 600 : Nat) : Int) ∧ pb_F (fun q => q < H0.size ∧ q ≠ r) H0 H1)) := by
  refine pb_of (by decide +kernel) (Nat.le_of_ble_eq_true rfl) ?_
  intro p_ e_ s_ m_ ar_ bl_ me_ co_ ls C hh hG hl
  have hl : lv_has ls 5 [(0, .ref (c)), (1, .int (iZ ((bI (co)))))] := hl
  have hzs := hG.1
  have hr1 := hC.2.1
  have hFF : pb_F (fun q => q < H0.size ∧ q ≠ r) H0 H0 := pb_F.rf
  have hct0 : popG (ctG g co 0) = popG g := rfl
  obtain ⟨hcz, hrz, hCO, hCA, hCok⟩ := id hC
  have L4 : ∀ (n_ : Nat) (n y t9 : Nat) (H : Heap), 24 - y = n_ → (pb_G w s_ H) → (y ≤ 24) → (n + popG (ctG g co n) ≤ popG g) → (∀ i, i < y → (ctG g co n) i = 0) → (t9 = ctP g co n) → (Cb w H z c r (ctG g co n)) → (pb_F (fun q => q < H0.size ∧ q ≠ r) H0 H) → ∀ (ls : Array Slot), lv_has ls 5 [(0, .ref (c)), (1, .int (iZ ((bI (co))))), (2, .int (iZ (((t9 : Nat) : Int)))), (3, .int (iZ (((y : Nat) : Int))))] → pb_V w.2.2.2 p_ l e_ (pb_rm 4 (5 * popG g) (97 * popG g)) s_ m_ ar_ bl_ me_ co_ H (5 * popG (ctG g co n)) (97 * popG (ctG g co n)) (pb_E w bl_ ar_ s_ (5 * popG g) (97 * popG g) (pb_qi (fun v H1 => v = ((ctP g co 600 : Nat) : Int) ∧ pb_F (fun q => q < H0.size ∧ q ≠ r) H0 H1))) (F0 m_ 4 ls []) := by
    intro n_
    induction n_ using Nat.strongRecOn with
    | _ n_ ih4 =>
    intro n y t9 H hm_ hG hy hnb hz0 ht hC hFF ls hl
    obtain ⟨hcz, hrz, hCO, hCA, hCok⟩ := id hC
    have L10 : ∀ (n_ : Nat) (n t9 : Nat) (H : Heap), popG (ctG g co n) = n_ → (pb_G w s_ H) → (y < 24) → (n + popG (ctG g co n) ≤ popG g) → (∀ i, i < y → (ctG g co n) i = 0) → (t9 = ctP g co n) → (Cb w H z c r (ctG g co n)) → (pb_F (fun q => q < H0.size ∧ q ≠ r) H0 H) → ∀ (ls : Array Slot), lv_has ls 5 [(0, .ref (c)), (1, .int (iZ ((bI (co))))), (2, .int (iZ (((t9 : Nat) : Int)))), (3, .int (iZ (((y : Nat) : Int))))] → pb_V w.2.2.2 p_ l e_ (pb_rm 4 (5 * popG g) (97 * popG g)) s_ m_ ar_ bl_ me_ co_ H (5 * popG (ctG g co n)) (97 * popG (ctG g co n)) (pb_E w bl_ ar_ s_ (5 * popG g) (97 * popG g) (pb_qi (fun v H1 => v = ((ctP g co 600 : Nat) : Int) ∧ pb_F (fun q => q < H0.size ∧ q ≠ r) H0 H1))) (F0 m_ 10 ls []) := by
      intro n_
      induction n_ using Nat.strongRecOn with
      | _ n_ ih10 =>
      intro n t9 H hm_ hG hy1 hnb hz0 ht hC hFF ls hl
      obtain ⟨hcz, hrz, hCO, hCA, hCok⟩ := id hC
      have hgn := hCok.1 y
      refine pb_aload_n C dX12_countParts_10 rfl (lv_at hl 0 rfl) ?_
      refine pb_get C in_X12 hCO.r (ci := 11) rfl 0 (by decide) q980 (fun _ h9 => h9) (v := .ref (r)) rfl dX12_countParts_11 ?_
      refine pb_iload_n C dX12_countParts_14 rfl (lv_at hl 3 rfl) ?_
      refine pb_iald C hCA.b (i := ((y : Nat) : Int)) (v := .int (iZ (((((ctG g co n) y) : Nat) : Int)))) (by omega) rfl dX12_countParts_15 ?_
      refine pb_if_eq C dX12_countParts_16 (x := ((((ctG g co n) y) : Nat) : Int)) (tgt := 59) (by decide) (by omega) (fun c16_ => ?_) (fun c16_ => ?_)
      · refine pb_iinc C dX12_countParts_59 hl (j := 3) (x := (((y : Nat) : Int))) rfl (by decide) rfl fun ls hl => ?_
        have hl : lv_has ls 5 [(3, .int (iZ ((((y + 1) : Nat) : Int)))), (0, .ref (c)), (1, .int (iZ ((bI (co))))), (2, .int (iZ (((t9 : Nat) : Int))))] := hl
        refine pb_goto C dX12_countParts_62 (tgt := 4) (by decide) ?_
        exact pb_V.mono (by omega) (by omega) (ih4 _ (by omega) n (y + 1) t9 H rfl hG (by omega) hnb (fun i h9 => if e9 : i = y then by rw [e9]; omega else hz0 i (by omega)) ht hC hFF ls (lv_sub hl [1, 2, 3, 0] rfl))
      · refine pb_aload_n C dX12_countParts_19 rfl (lv_at hl 0 rfl) ?_
        refine pb_aload_n C dX12_countParts_20 rfl (lv_at hl 0 rfl) ?_
        refine pb_get C in_X12 hCO.r (ci := 11) rfl 0 (by decide) q980 (fun _ h9 => h9) (v := .ref (r)) rfl dX12_countParts_21 ?_
        refine pb_iload_n C dX12_countParts_24 rfl (lv_at hl 3 rfl) ?_
        refine pb_iald C hCA.b (i := ((y : Nat) : Int)) (v := .int (iZ (((((ctG g co n) y) : Nat) : Int)))) (by omega) rfl dX12_countParts_25 ?_
        refine pb_go_x (bc' := 5 * popG (ctG g co n)) (bs' := 97 * popG (ctG g co n)) (pb_runS (rest := [.ref (c)]) C hG (met_J19_numberOfTrailingZeros l ((ctG g co n) y) ⟨by omega, by omega⟩) (lw_S q997 q998 q84 q999) hdJ19_numberOfTrailingZeros rfl hl.1 rfl (Nat.le_of_ble_eq_true rfl) ⟨(Nat.le_of_ble_eq_true rfl), (Nat.le_of_ble_eq_true rfl)⟩ dX12_countParts_26) (by omega) (by omega) ?_
        refine pb_iload_n C dX12_countParts_29 rfl (lv_at hl 3 rfl) ?_
        refine pb_iload_n C dX12_countParts_30 rfl (lv_at hl 1 rfl) ?_
        have hn9 : (ctG g co n) y ≠ 0 := by omega
        obtain ⟨htz1, htz2, -⟩ := tzN_bit (v := (ctG g co n) y) (by omega) (hCok.1 y)
        obtain ⟨hcb1, hcb2, hcb3⟩ := cp_bud (co := co) hCok hy1 hn9
        have hst := ct_step hy1 hz0 hn9
        rw [← hst] at hcb2
        refine pb_go_r (bc' := 5 * popG (ctG g co n) - (4 + popG (tpL (ctG g co n) co (sdG (tzN ((ctG g co n) y)) y)))) (bs' := 97 * popG (ctG g co n) - (73 + 24 * popG (tpL (ctG g co n) co (sdG (tzN ((ctG g co n) y)) y)))) (pb_runV (rest := []) C hG (met_X12_takePart l z c r (tzN ((ctG g co n) y)) y (ctG g co n) co hC hz htz1 hy1) hCO.r (ci := 11) rfl (lw_V q1001 q1002 q1003 q82 q1004) ⟨rfl, hdX12_takePart⟩ rfl hl.1 rfl (Nat.le_of_ble_eq_true rfl) ⟨(Nat.le_of_ble_eq_true rfl), (Nat.le_of_ble_eq_true rfl)⟩ dX12_countParts_31) (by omega) (by omega) (fun p H_ hp_ => ?_)
        obtain ⟨hp, hC, hF1⟩ := hp_
        rw [← hst] at hC
        have hz9 := hFF.1
        have hG := hG.kept (hF1.mono (fun q _ (hq : q < w.2.2.2) => ⟨by omega, show q ≠ r from by omega⟩))
        have hFF := hFF.tr (hF1.mono (fun q _ hq => ⟨Nat.lt_of_lt_of_le hq.1 hz9, hq.2⟩))
        obtain ⟨fsp_, hpo⟩ := hp.q.o
        refine pb_astore C dX12_countParts_34 hl (by decide) rfl fun ls hl => ?_
        have hl : lv_has ls 5 [(4, .ref (p)), (0, .ref (c)), (1, .int (iZ ((bI (co))))), (2, .int (iZ (((t9 : Nat) : Int)))), (3, .int (iZ (((y : Nat) : Int))))] := hl
        refine pb_iload_n C dX12_countParts_36 rfl (lv_at hl 3 rfl) ?_
        refine pb_iload_n C dX12_countParts_37 rfl (lv_at hl 2 rfl) ?_
        refine pb_ifB_eq C dX12_countParts_38 (tgt := 53) (by decide) (fun c38_ => ?_) (fun c38_ => ?_)
        · refine pb_ic C dX12_countParts_53 ?_
          refine pb_iadd C dX12_countParts_54 ?_
          refine pb_istore_n C dX12_countParts_55 rfl hl (by decide) rfl fun ls hl => ?_
          have hl : lv_has ls 5 [(2, .int (iZ ((((t9 + 1) : Nat) : Int)))), (4, .ref (p)), (0, .ref (c)), (1, .int (iZ ((bI (co))))), (3, .int (iZ (((y : Nat) : Int))))] := hl
          refine pb_goto C dX12_countParts_56 (tgt := 10) (by decide) ?_
          exact pb_V.mono (by omega) (by omega) (ih10 _ (by omega) (n + 1) (t9 + 1) H_ rfl hG (by omega) (by omega) (fun i h9 => by rw [hst]; exact rm_z (hz0 i h9)) (by rw [cP_step hy1 hz0 hn9, ← ht, c38_, Bool.false_and, if_neg Bool.false_ne_true]) hC hFF ls (lv_sub hl [2, 3, 0, 4] rfl))
        · refine pb_aload C dX12_countParts_41 (lv_at hl 0 rfl) ?_
          refine pb_go_x (bc' := 5 * popG (ctG g co n) - (4 + popG (tpL (ctG g co n) co (sdG (tzN ((ctG g co n) y)) y)))) (bs' := 97 * popG (ctG g co n) - (73 + 24 * popG (tpL (ctG g co n) co (sdG (tzN ((ctG g co n) y)) y)))) (pb_runV (rest := [.int (iZ (((t9 : Nat) : Int)))]) C hG (met_X12_isAtRim l p _ (tpL (ctG g co n) co (sdG (tzN ((ctG g co n) y)) y)) hp.q) hpo (ci := 11) rfl (lw_V q1021 q1022 q1023 q82 q1024) ⟨rfl, hdX12_isAtRim⟩ rfl hl.1 rfl (Nat.le_of_ble_eq_true rfl) ⟨(Nat.le_of_ble_eq_true rfl), (Nat.le_of_ble_eq_true rfl)⟩ dX12_countParts_43) (by omega) (by omega) ?_
          refine pb_ifB_eq C dX12_countParts_46 (tgt := 53) (by decide) (fun c46_ => ?_) (fun c46_ => ?_)
          · refine pb_ic C dX12_countParts_53 ?_
            refine pb_iadd C dX12_countParts_54 ?_
            refine pb_istore_n C dX12_countParts_55 rfl hl (by decide) rfl fun ls hl => ?_
            have hl : lv_has ls 5 [(2, .int (iZ ((((t9 + 1) : Nat) : Int)))), (4, .ref (p)), (0, .ref (c)), (1, .int (iZ ((bI (co))))), (3, .int (iZ (((y : Nat) : Int))))] := hl
            refine pb_goto C dX12_countParts_56 (tgt := 10) (by decide) ?_
            exact pb_V.mono (by omega) (by omega) (ih10 _ (by omega) (n + 1) (t9 + 1) H_ rfl hG (by omega) (by omega) (fun i h9 => by rw [hst]; exact rm_z (hz0 i h9)) (by rw [cP_step hy1 hz0 hn9, ← ht, c46_, Bool.and_false, if_neg Bool.false_ne_true]) hC hFF ls (lv_sub hl [2, 3, 0, 4] rfl))
          · refine pb_ic C dX12_countParts_49 ?_
            refine pb_goto C dX12_countParts_50 (tgt := 54) (by decide) ?_
            refine pb_iadd C dX12_countParts_54 ?_
            refine pb_istore_n C dX12_countParts_55 rfl hl (by decide) rfl fun ls hl => ?_
            have hl : lv_has ls 5 [(2, .int (iZ ((((t9 + 0) : Nat) : Int)))), (4, .ref (p)), (0, .ref (c)), (1, .int (iZ ((bI (co))))), (3, .int (iZ (((y : Nat) : Int))))] := hl
            refine pb_goto C dX12_countParts_56 (tgt := 10) (by decide) ?_
            exact pb_V.mono (by omega) (by omega) (ih10 _ (by omega) (n + 1) (t9 + 0) H_ rfl hG (by omega) (by omega) (fun i h9 => by rw [hst]; exact rm_z (hz0 i h9)) (by rw [cP_step hy1 hz0 hn9, ← ht, c46_, c38_, Bool.and_true, if_pos rfl]) hC hFF ls (lv_sub hl [2, 3, 0, 4] rfl))
    refine pb_iload_n C dX12_countParts_4 rfl (lv_at hl 3 rfl) ?_
    refine pb_bip C dX12_countParts_5 (by decide) ?_
    refine pb_icmp_ge C dX12_countParts_7 (x := ((y : Nat) : Int)) (y := 24) (tgt := 65) (by decide) (by omega) (by omega) (fun c7_ => ?_) (fun c7_ => ?_)
    · refine pb_iload_n C dX12_countParts_65 rfl (lv_at hl 2 rfl) ?_
      exact pb_iret C dX12_countParts_66 (⟨_, rfl, by rw [ht, cP_end (n := n) (fun i h9 => hz0 i (by omega)) (by have := popG_le g; omega)], hFF⟩)
    · exact pb_V.mono (by omega) (by omega) (L10 _ n t9 H rfl hG (by omega) hnb hz0 ht hC hFF ls (lv_sub hl [0, 1, 2, 3] rfl))
  refine pb_ic C dX12_countParts_0 ?_
  refine pb_istore_n C dX12_countParts_1 rfl hl (by decide) rfl fun ls hl => ?_
  have hl : lv_has ls 5 [(2, .int (iZ (0))), (0, .ref (c)), (1, .int (iZ ((bI (co)))))] := hl
  refine pb_ic C dX12_countParts_2 ?_
  refine pb_istore_n C dX12_countParts_3 rfl hl (by decide) rfl fun ls hl => ?_
  have hl : lv_has ls 5 [(3, .int (iZ (0))), (2, .int (iZ (0))), (0, .ref (c)), (1, .int (iZ ((bI (co)))))] := hl
  exact pb_V.mono (by omega) (by omega) (L4 _ 0 0 0 H0 rfl hG (by omega) (Nat.le_of_eq (Nat.zero_add _)) (fun i h9 => absurd h9 (Nat.not_lt_zero _)) rfl hC hFF ls (lv_sub hl [2, 3, 1, 0] rfl))

set_option maxHeartbeats 1000000 in
theorem met_X12_inner {w : pb_W} (l : Launch) {H0 : Heap} (z c r : Nat) (g : Nat → Nat) (hC : Cb w H0 z c r g) (hz : w.2.2.2 ≤ z) : pb_M w l yX12_inner cX12_inner 5 (some (.object "PolygonBoard$Cells")) 4 (2 + 5 * popG g) (25 + 97 * popG g) [.ref (c)] H0 (pb_qr (fun a H1 => Cb w H1 H0.size a (H0.size + 1) (inP g 600) ∧ pb_F (fun q => q < H0.size ∧ q ≠ r) H0 H1)) := by
  refine pb_of (by decide +kernel) (Nat.le_of_ble_eq_true rfl) ?_
  intro p_ e_ s_ m_ ar_ bl_ me_ co_ ls C hh hG hl
  have hl : lv_has ls 5 [(0, .ref (c))] := hl
  have hzs := hG.1
  have hr1 := hC.2.1
  have hc1 := hC.1
  have hc2 := hC.2.2.1.lt
  have hr2 := hC.2.2.2.1.lt
  have hFF : pb_F (fun q => q < H0.size ∧ q ≠ r) H0 H0 := pb_F.rf
  have hct0 : popG (ctG g true 0) = popG g := rfl
  have L10 : ∀ (n_ : Nat) (n y : Nat) (H : Heap), 24 - y = n_ → (pb_G w s_ H) → (y ≤ 24) → (n + popG (ctG g true n) ≤ popG g) → (∀ i, i < y → (ctG g true n) i = 0) → (gok (inP g n)) → (Cb w H H0.size H0.size (H0.size + 1) (inP g n)) → (Cb w H z c r (ctG g true n)) → (pb_F (fun q => q < H0.size ∧ q ≠ r) H0 H) → ∀ (ls : Array Slot), lv_has ls 5 [(0, .ref (c)), (1, .ref (H0.size)), (2, .int (iZ (((y : Nat) : Int))))] → pb_V w.2.2.2 p_ l e_ (pb_rm 4 (2 + 5 * popG g) (25 + 97 * popG g)) s_ m_ ar_ bl_ me_ co_ H (5 * popG (ctG g true n)) (97 * popG (ctG g true n)) (pb_E w bl_ ar_ s_ (2 + 5 * popG g) (25 + 97 * popG g) (pb_qr (fun a H1 => Cb w H1 H0.size a (H0.size + 1) (inP g 600) ∧ pb_F (fun q => q < H0.size ∧ q ≠ r) H0 H1))) (F0 m_ 10 ls []) := by
    intro n_
    induction n_ using Nat.strongRecOn with
    | _ n_ ih10 =>
    intro n y H hm_ hG hy hnb hz0 hInok hI hC hFF ls hl
    have L16 : ∀ (n_ : Nat) (n : Nat) (H : Heap), popG (ctG g true n) = n_ → (pb_G w s_ H) → (y < 24) → (n + popG (ctG g true n) ≤ popG g) → (∀ i, i < y → (ctG g true n) i = 0) → (gok (inP g n)) → (Cb w H H0.size H0.size (H0.size + 1) (inP g n)) → (Cb w H z c r (ctG g true n)) → (pb_F (fun q => q < H0.size ∧ q ≠ r) H0 H) → ∀ (ls : Array Slot), lv_has ls 5 [(0, .ref (c)), (1, .ref (H0.size)), (2, .int (iZ (((y : Nat) : Int))))] → pb_V w.2.2.2 p_ l e_ (pb_rm 4 (2 + 5 * popG g) (25 + 97 * popG g)) s_ m_ ar_ bl_ me_ co_ H (5 * popG (ctG g true n)) (97 * popG (ctG g true n)) (pb_E w bl_ ar_ s_ (2 + 5 * popG g) (25 + 97 * popG g) (pb_qr (fun a H1 => Cb w H1 H0.size a (H0.size + 1) (inP g 600) ∧ pb_F (fun q => q < H0.size ∧ q ≠ r) H0 H1))) (F0 m_ 16 ls []) := by
      intro n_
      induction n_ using Nat.strongRecOn with
      | _ n_ ih16 =>
      intro n H hm_ hG hy1 hnb hz0 hInok hI hC hFF ls hl
      obtain ⟨hcz, hrz, hCO, hCA, hCok⟩ := id hC
      have hgn := hCok.1 y
      obtain ⟨HP, hHP⟩ : ∃ HP, HP = H := ⟨_, rfl⟩
      have L44 : ∀ (n_ : Nat) (k p : Nat) (H : Heap), 24 - k = n_ → (pb_G w s_ H) → ((ctG g true n) y ≠ 0) → (H0.size + 1 < HP.size) → (k ≤ 24) → (0 < k → rimG (tpL (ctG g true n) true (sdG (tzN ((ctG g true n) y)) y)) 24 = false) → (Cb w H H0.size H0.size (H0.size + 1) (fun i => if i < k then inP g n i ||| (tpL (ctG g true n) true (sdG (tzN ((ctG g true n) y)) y)) i else inP g n i)) → (Cb w H HP.size p (HP.size + 1) (tpL (ctG g true n) true (sdG (tzN ((ctG g true n) y)) y))) → (Cb w H z c r (ctG g true (n + 1))) → (pb_F (fun q => q < H0.size ∧ q ≠ r) H0 H) → ∀ (ls : Array Slot), lv_has ls 5 [(0, .ref (c)), (1, .ref (H0.size)), (2, .int (iZ (((y : Nat) : Int)))), (3, .ref (p)), (4, .int (iZ (((k : Nat) : Int))))] → pb_V w.2.2.2 p_ l e_ (pb_rm 4 (2 + 5 * popG g) (25 + 97 * popG g)) s_ m_ ar_ bl_ me_ co_ H (5 * popG (ctG g true (n + 1))) (97 * popG (ctG g true (n + 1))) (pb_E w bl_ ar_ s_ (2 + 5 * popG g) (25 + 97 * popG g) (pb_qr (fun a H1 => Cb w H1 H0.size a (H0.size + 1) (inP g 600) ∧ pb_F (fun q => q < H0.size ∧ q ≠ r) H0 H1))) (F0 m_ 44 ls []) := by
        intro n_
        induction n_ using Nat.strongRecOn with
        | _ n_ ih44 =>
        intro k p H hm_ hG hn9 hI1 hk hkr hI hp hC hFF ls hl
        have hst := ct_step hy1 hz0 hn9
        obtain ⟨hcb1, hcb2, hcb3⟩ := cp_bud (co := true) hCok hy1 hn9
        rw [← hst] at hcb2
        have hc3 := hC.2.2.1.lt
        obtain ⟨hiz, hirz, hIO, hIA, hIok⟩ := id hI
        obtain ⟨hpz, hprz, hPO, hPA, hPok⟩ := id hp
        refine pb_iload C dX12_inner_44 (lv_at hl 4 rfl) ?_
        refine pb_bip C dX12_inner_46 (by decide) ?_
        refine pb_icmp_ge C dX12_inner_48 (x := ((k : Nat) : Int)) (y := 24) (tgt := 81) (by decide) (by omega) (by omega) (fun c48_ => ?_) (fun c48_ => ?_)
        · refine pb_goto C dX12_inner_81 (tgt := 16) (by decide) ?_
          exact pb_V.mono (by omega) (by omega) (ih16 _ (by omega) (n + 1) H rfl hG (by omega) (by omega) (fun i h9 => by rw [hst]; exact rm_z (hz0 i h9)) (in_ok hCok hy1 hz0 hn9 hInok) (by obtain rfl : k = 24 := (by omega); rw [in_step hy1 hz0 hn9 (fun i h9 => in_hi g n i h9), hkr (by omega), if_neg Bool.false_ne_true]; exact hI) hC hFF ls (lv_sub hl [0, 1, 2] rfl))
        · refine pb_aload_n C dX12_inner_51 rfl (lv_at hl 3 rfl) ?_
          refine pb_go_x (bc' := 5 * popG (ctG g true (n + 1))) (bs' := 97 * popG (ctG g true (n + 1))) (pb_runV (rest := []) C hG (met_X12_isAtRim l p _ (tpL (ctG g true n) true (sdG (tzN ((ctG g true n) y)) y)) hp.q) hPO.r (ci := 11) rfl (lw_V q1021 q1022 q1023 q82 q1024) ⟨rfl, hdX12_isAtRim⟩ rfl hl.1 rfl (Nat.le_of_ble_eq_true rfl) ⟨(Nat.le_of_ble_eq_true rfl), (Nat.le_of_ble_eq_true rfl)⟩ dX12_inner_52) (by omega) (by omega) ?_
          refine pb_ifB_ne C dX12_inner_55 (tgt := 81) (by decide) (fun c55_ => ?_) (fun c55_ => ?_)
          · refine pb_goto C dX12_inner_81 (tgt := 16) (by decide) ?_
            exact pb_V.mono (by omega) (by omega) (ih16 _ (by omega) (n + 1) H rfl hG (by omega) (by omega) (fun i h9 => by rw [hst]; exact rm_z (hz0 i h9)) (in_ok hCok hy1 hz0 hn9 hInok) (by have hk0 : k = 0 := (Classical.byContradiction fun h9 => by rw [hkr (by omega)] at c55_; cases c55_); subst hk0; rw [in_step hy1 hz0 hn9 (fun i h9 => in_hi g n i h9), c55_, if_pos rfl]; exact hI) hC hFF ls (lv_sub hl [0, 1, 2] rfl))
          · refine pb_aload_n C dX12_inner_58 rfl (lv_at hl 1 rfl) ?_
            refine pb_get C in_X12 hIO.r (ci := 11) rfl 0 (by decide) q980 (fun _ h9 => h9) (v := .ref ((H0.size + 1))) rfl dX12_inner_59 ?_
            refine pb_iload C dX12_inner_62 (lv_at hl 4 rfl) ?_
            refine pb_dup2 C dX12_inner_64 rfl rfl ?_
            refine pb_iald C hIA.b (i := ((k : Nat) : Int)) (v := .int (iZ ((((inP g n k) : Nat) : Int)))) (by omega) (by rw [Int.toNat_natCast]; exact congrArg (fun z : Nat => Value.int (iZ ((z : Nat) : Int))) (if_neg (Nat.lt_irrefl k))) dX12_inner_65 ?_
            refine pb_aload_n C dX12_inner_66 rfl (lv_at hl 3 rfl) ?_
            refine pb_get C in_X12 hPO.r (ci := 11) rfl 0 (by decide) q980 (fun _ h9 => h9) (v := .ref ((HP.size + 1))) rfl dX12_inner_67 ?_
            refine pb_iload C dX12_inner_70 (lv_at hl 4 rfl) ?_
            refine pb_iald C hPA.b (i := ((k : Nat) : Int)) (v := .int (iZ (((((tpL (ctG g true n) true (sdG (tzN ((ctG g true n) y)) y)) k) : Nat) : Int)))) (by omega) rfl dX12_inner_72 ?_
            have hok1 := hInok.1 k
            have hok2 := hPok.1 k
            refine pb_ior C dX12_inner_73 (x := (inP g n k)) (y := ((tpL (ctG g true n) true (sdG (tzN ((ctG g true n) y)) y)) k)) ?_
            refine pb_iast C hIA (i := ((k : Nat) : Int)) (by omega) (by omega) dX12_inner_74 fun H1_ hu_ hIA => ?_
            rw [pb_upN, Int.toNat_natCast, show va_up (fun i => if i < k then inP g n i ||| (tpL (ctG g true n) true (sdG (tzN ((ctG g true n) y)) y)) i else inP g n i) k (inP g n k ||| (tpL (ctG g true n) true (sdG (tzN ((ctG g true n) y)) y)) k) = (fun i => if i < k + 1 then inP g n i ||| (tpL (ctG g true n) true (sdG (tzN ((ctG g true n) y)) y)) i else inP g n i) from up_fn (φ := fun i => inP g n i ||| (tpL (ctG g true n) true (sdG (tzN ((ctG g true n) y)) y)) i) (inP g n) rfl] at hIA
            have hG := hG.kept (hu_.z (by omega))
            have hs_H1_ := hu_.1
            have hIO := hIO.kept (hu_.2 _ (by omega))
            have hPO := hPO.kept (hu_.2 _ (by omega))
            have hPA := hPA.kept (hu_.2 _ (by omega))
            have hFF := hFF.tr (hu_.f.mono (fun q _ hq => show q ≠ _ from by have := hq.1; omega))
            have hI : Cb w H1_ H0.size H0.size (H0.size + 1) (fun i => if i < k + 1 then inP g n i ||| (tpL (ctG g true n) true (sdG (tzN ((ctG g true n) y)) y)) i else inP g n i) := ⟨hiz, hirz, hIO, hIA, gok_or hInok hPok (k + 1)⟩
            have hp : Cb w H1_ HP.size p (HP.size + 1) (tpL (ctG g true n) true (sdG (tzN ((ctG g true n) y)) y)) := ⟨hpz, hprz, hPO, hPA, hPok⟩
            have hC := hC.kq hu_.f (show c ≠ _ from by omega) (show r ≠ _ from by omega)
            refine pb_iinc C dX12_inner_75 hl (j := 4) (x := (((k : Nat) : Int))) rfl (by decide) rfl fun ls hl => ?_
            have hl : lv_has ls 5 [(4, .int (iZ ((((k + 1) : Nat) : Int)))), (0, .ref (c)), (1, .ref (H0.size)), (2, .int (iZ (((y : Nat) : Int)))), (3, .ref (p))] := hl
            refine pb_goto C dX12_inner_78 (tgt := 44) (by decide) ?_
            exact pb_V.mono (by omega) (by omega) (ih44 _ (by omega) (k + 1) p H1_ rfl hG hn9 (by omega) (by omega) (fun _ => c55_) hI hp hC hFF ls (lv_sub hl [1, 2, 3, 4, 0] rfl))
      refine pb_aload_n C dX12_inner_16 rfl (lv_at hl 0 rfl) ?_
      refine pb_get C in_X12 hCO.r (ci := 11) rfl 0 (by decide) q980 (fun _ h9 => h9) (v := .ref (r)) rfl dX12_inner_17 ?_
      refine pb_iload_n C dX12_inner_20 rfl (lv_at hl 2 rfl) ?_
      refine pb_iald C hCA.b (i := ((y : Nat) : Int)) (v := .int (iZ (((((ctG g true n) y) : Nat) : Int)))) (by omega) rfl dX12_inner_21 ?_
      refine pb_if_eq C dX12_inner_22 (x := ((((ctG g true n) y) : Nat) : Int)) (tgt := 84) (by decide) (by omega) (fun c22_ => ?_) (fun c22_ => ?_)
      · refine pb_iinc C dX12_inner_84 hl (j := 2) (x := (((y : Nat) : Int))) rfl (by decide) rfl fun ls hl => ?_
        have hl : lv_has ls 5 [(2, .int (iZ ((((y + 1) : Nat) : Int)))), (0, .ref (c)), (1, .ref (H0.size))] := hl
        refine pb_goto C dX12_inner_87 (tgt := 10) (by decide) ?_
        exact pb_V.mono (by omega) (by omega) (ih10 _ (by omega) n (y + 1) H rfl hG (by omega) hnb (fun i h9 => if e9 : i = y then by rw [e9]; omega else hz0 i (by omega)) hInok hI hC hFF ls (lv_sub hl [1, 2, 0] rfl))
      · refine pb_aload_n C dX12_inner_25 rfl (lv_at hl 0 rfl) ?_
        refine pb_aload_n C dX12_inner_26 rfl (lv_at hl 0 rfl) ?_
        refine pb_get C in_X12 hCO.r (ci := 11) rfl 0 (by decide) q980 (fun _ h9 => h9) (v := .ref (r)) rfl dX12_inner_27 ?_
        refine pb_iload_n C dX12_inner_30 rfl (lv_at hl 2 rfl) ?_
        refine pb_iald C hCA.b (i := ((y : Nat) : Int)) (v := .int (iZ (((((ctG g true n) y) : Nat) : Int)))) (by omega) rfl dX12_inner_31 ?_
        refine pb_go_x (bc' := 5 * popG (ctG g true n)) (bs' := 97 * popG (ctG g true n)) (pb_runS (rest := [.ref (c)]) C hG (met_J19_numberOfTrailingZeros l ((ctG g true n) y) ⟨by omega, by omega⟩) (lw_S q997 q998 q84 q999) hdJ19_numberOfTrailingZeros rfl hl.1 rfl (Nat.le_of_ble_eq_true rfl) ⟨(Nat.le_of_ble_eq_true rfl), (Nat.le_of_ble_eq_true rfl)⟩ dX12_inner_32) (by omega) (by omega) ?_
        refine pb_iload_n C dX12_inner_35 rfl (lv_at hl 2 rfl) ?_
        refine pb_ic C dX12_inner_36 ?_
        have hn9 : (ctG g true n) y ≠ 0 := by omega
        obtain ⟨htz1, htz2, -⟩ := tzN_bit (v := (ctG g true n) y) (by omega) (hCok.1 y)
        obtain ⟨hcb1, hcb2, hcb3⟩ := cp_bud (co := true) hCok hy1 hn9
        have hst := ct_step hy1 hz0 hn9
        rw [← hst] at hcb2
        refine pb_go_r (bc' := 5 * popG (ctG g true n) - (4 + popG (tpL (ctG g true n) true (sdG (tzN ((ctG g true n) y)) y)))) (bs' := 97 * popG (ctG g true n) - (73 + 24 * popG (tpL (ctG g true n) true (sdG (tzN ((ctG g true n) y)) y)))) (pb_runV (rest := []) C hG (met_X12_takePart l z c r (tzN ((ctG g true n) y)) y (ctG g true n) true hC hz htz1 hy1) hCO.r (ci := 11) rfl (lw_V q1001 q1002 q1003 q82 q1004) ⟨rfl, hdX12_takePart⟩ rfl hl.1 rfl (Nat.le_of_ble_eq_true rfl) ⟨(Nat.le_of_ble_eq_true rfl), (Nat.le_of_ble_eq_true rfl)⟩ dX12_inner_37) (by omega) (by omega) (fun p H_ hp_ => ?_)
        obtain ⟨hp, hC, hF1⟩ := hp_
        rw [← hst] at hC
        have hz9 := hFF.1
        have hG := hG.kept (hF1.mono (fun q _ (hq : q < w.2.2.2) => ⟨by omega, show q ≠ r from by omega⟩))
        have hFF := hFF.tr (hF1.mono (fun q _ hq => ⟨Nat.lt_of_lt_of_le hq.1 hz9, hq.2⟩))
        obtain ⟨fsp_, hpo⟩ := hp.q.o
        rw [← hHP] at hp
        have hHs : HP.size = H.size := by rw [hHP]
        have hpz9 := hp.1
        have hI1 : H0.size + 1 < HP.size := by rw [hHP]; exact hI.2.2.2.1.lt
        have hI := hI.kq hF1 ⟨hI.2.2.1.lt, show H0.size ≠ r from by omega⟩ ⟨hI.2.2.2.1.lt, show H0.size + 1 ≠ r from by omega⟩
        have hHz := hFF.1
        refine pb_astore_n C dX12_inner_40 rfl hl (by decide) rfl fun ls hl => ?_
        have hl : lv_has ls 5 [(3, .ref (p)), (0, .ref (c)), (1, .ref (H0.size)), (2, .int (iZ (((y : Nat) : Int))))] := hl
        refine pb_ic C dX12_inner_41 ?_
        refine pb_istore C dX12_inner_42 hl (by decide) rfl fun ls hl => ?_
        have hl : lv_has ls 5 [(4, .int (iZ (0))), (3, .ref (p)), (0, .ref (c)), (1, .ref (H0.size)), (2, .int (iZ (((y : Nat) : Int))))] := hl
        exact pb_V.mono (by omega) (by omega) (L44 _ 0 p H_ rfl hG hn9 (by omega) (by omega) (fun h9 => absurd h9 (Nat.lt_irrefl 0)) (by rw [show (fun i => if i < 0 then inP g n i ||| (tpL (ctG g true n) true (sdG (tzN ((ctG g true n) y)) y)) i else inP g n i) = inP g n from funext fun i => if_neg (Nat.not_lt_zero i)]; exact hI) hp hC hFF ls (lv_sub hl [2, 3, 4, 1, 0] rfl))
    refine pb_iload_n C dX12_inner_10 rfl (lv_at hl 2 rfl) ?_
    refine pb_bip C dX12_inner_11 (by decide) ?_
    refine pb_icmp_ge C dX12_inner_13 (x := ((y : Nat) : Int)) (y := 24) (tgt := 90) (by decide) (by omega) (by omega) (fun c13_ => ?_) (fun c13_ => ?_)
    · refine pb_aload_n C dX12_inner_90 rfl (lv_at hl 1 rfl) ?_
      exact pb_aret C (Or.inl ⟨_, rfl⟩) dX12_inner_91 (Or.inr ⟨_, rfl⟩) (⟨_, rfl, by rw [in_end (n := n) (fun i h9 => hz0 i (by omega)) (by have := popG_le g; omega)]; exact hI, hFF⟩)
    · exact pb_V.mono (by omega) (by omega) (L16 _ n H rfl hG (by omega) hnb hz0 hInok hI hC hFF ls (lv_sub hl [0, 1, 2] rfl))
  refine pb_newE C in_X12 tyX12 tyX12_ok (ci := 11) rfl q974 q975 q82 (fs := [.null]) (by decide) (bc' := 2 + 5 * popG g - 1) (bs' := 25 + 97 * popG g - 1) (by omega) (by omega) dX12_inner_0 fun a2_ H2_ ha_ hn_ hN2_ => ?_
  have hs2_ : H2_.size = H0.size + 1 := hn_.1
  have hG := hG.kept (hn_.f.mono (fun _ _ _ => trivial))
  have hFF := hFF.tr (hn_.f.mono (fun _ _ _ => trivial))
  obtain rfl : a2_ = H0.size := by omega
  skip
  have hN := hN2_
  refine pb_dup C dX12_inner_3 rfl ?_
  have hz9 := hFF.1
  refine pb_go_v (bc' := 2 + 5 * popG g - 1 - 1) (bs' := 25 + 97 * popG g - 1 - 24) (pb_runI (rest := [.ref (H0.size)]) C hG (met_X12_init l H0.size H0.size (by omega) (by omega) hN) q976 q977 q82 q978 rfl hdX12_init rfl hl.1 rfl (Nat.le_of_ble_eq_true rfl) ⟨(Nat.le_of_ble_eq_true rfl), (Nat.le_of_ble_eq_true rfl)⟩ dX12_inner_4) (by omega) (by omega) (fun H_ hp_ => ?_)
  obtain ⟨hI, hF1⟩ := hp_
  rw [hs2_] at hI
  have hC := hC.kq hn_.f trivial trivial
  have hC := hC.kq hF1 ⟨by omega, show c ≠ _ from by omega⟩ ⟨by omega, show r ≠ _ from by omega⟩
  have hG := hG.kept (hF1.mono (fun q hq9 (hq : q < w.2.2.2) => ⟨hq9, show q ≠ _ from by omega⟩))
  have hFF := hFF.tr (hF1.mono (fun q hq9 (hq : q < H0.size ∧ q ≠ r) => ⟨hq9, show q ≠ _ from by have := hq.1; omega⟩))
  refine pb_astore_n C dX12_inner_7 rfl hl (by decide) rfl fun ls hl => ?_
  have hl : lv_has ls 5 [(1, .ref (H0.size)), (0, .ref (c))] := hl
  refine pb_ic C dX12_inner_8 ?_
  refine pb_istore_n C dX12_inner_9 rfl hl (by decide) rfl fun ls hl => ?_
  have hl : lv_has ls 5 [(2, .int (iZ (0))), (1, .ref (H0.size)), (0, .ref (c))] := hl
  exact pb_V.mono (by omega) (by omega) (L10 _ 0 0 H_ rfl hG (by omega) (Nat.le_of_eq (Nat.zero_add _)) (fun i h9 => absurd h9 (Nat.not_lt_zero _)) gok_0 hI hC hFF ls (lv_sub hl [2, 1, 0] rfl))

