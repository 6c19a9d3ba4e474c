set_option maxRecDepth 100000
set_option maxHeartbeats 1000000 in
theorem met_X12_of {w : pb_W} (l : Launch) {H0 : Heap} (a : Nat) (P : Nat → Prop) (L : List Bnd) (hR : Rg w H0 P a L) (hEr : ∀ y i, 0 ≤ eE (rowL L y) i ∧ eE (rowL L y) i ≤ 24) (hLe : ∀ y k, 2 * k + 1 < (rowL L y).length → eE (rowL L y) (2 * k) ≤ eE (rowL L y) (2 * k + 1)) : pb_M w l yX12_of cX12_of 5 (some (.object "PolygonBoard$Cells")) 4 (26) (121) [.ref (a)] H0 (pb_qr (fun c H1 => Cb w H1 H0.size c (H0.size + 1) (ofG L 24) ∧ pb_F (fun q => q < H0.size) H0 H1)) := by
  refine pb_of (by decide +kernel) (Nat.le_of_ble_eq_true rfl) ?_
  intro p_ e_ s_ m_ ar_ bl_ me_ co_ ls C hh hG hl
  have hl : lv_has ls 5 [(0, .ref (a))] := hl
  have hzs := hG.1
  have hFF : pb_F (fun q => q < H0.size) H0 H0 := pb_F.rf
  have hR := hR.below
  have L10 : ∀ (n_ : Nat) (n : Nat) (H : Heap), 24 - n = n_ → (pb_G w s_ H) → (n ≤ 24) → (Cb w H H0.size H0.size (H0.size + 1) ((ofG L n))) → (pb_F (fun q => q < H0.size) H0 H) → ∀ (ls : Array Slot), lv_has ls 5 [(0, .ref (a)), (1, .ref (H0.size)), (2, .int (iZ (((n : Nat) : Int))))] → pb_V w.2.2.2 p_ l e_ (pb_rm 4 (26) (121)) s_ m_ ar_ bl_ me_ co_ H (24 - n) (4 * (24 - n)) (pb_E w bl_ ar_ s_ (26) (121) (pb_qr (fun c H1 => Cb w H1 H0.size c (H0.size + 1) (ofG L 24) ∧ pb_F (fun q => q < H0.size) H0 H1))) (F0 m_ 10 ls []) := by
    intro n_
    induction n_ using Nat.strongRecOn with
    | _ n_ ih10 =>
    intro n H hm_ hG hn hC hFF ls hl
    obtain ⟨fsR_, hRo⟩ := (hR.kept hFF).o
    have L25 : ∀ (n_ : Nat) (k s9 : Nat) (H : Heap), (rowL L ((n : Nat) : Int)).length / 2 - k = n_ → (pb_G w s_ H) → (k ≤ (rowL L ((n : Nat) : Int)).length / 2) → (n < 24) → (Sp w H (fun q => q ≠ H0.size + 1) s9 (rowL L ((n : Nat) : Int))) → (Cb w H H0.size H0.size (H0.size + 1) ((va_up (ofG L n) n (ofE (rowL L ((n : Nat) : Int)) k)))) → (pb_F (fun q => q < H0.size) H0 H) → ∀ (ls : Array Slot), lv_has ls 5 [(0, .ref (a)), (1, .ref (H0.size)), (2, .int (iZ (((n : Nat) : Int)))), (3, .ref (s9)), (4, .int (iZ (((k : Nat) : Int))))] → pb_V w.2.2.2 p_ l e_ (pb_rm 4 (26) (121)) s_ m_ ar_ bl_ me_ co_ H (24 - n - 1) (4 * (24 - n - 1)) (pb_E w bl_ ar_ s_ (26) (121) (pb_qr (fun c H1 => Cb w H1 H0.size c (H0.size + 1) (ofG L 24) ∧ pb_F (fun q => q < H0.size) H0 H1))) (F0 m_ 25 ls []) := by
      intro n_
      induction n_ using Nat.strongRecOn with
      | _ n_ ih25 =>
      intro k s9 H hm_ hG hk hn1 hS hC hFF ls hl
      obtain ⟨hcz, hrz, hCO, hCA, hCok⟩ := id hC
      obtain ⟨fsS_, hSo⟩ := hS.o
      have hl64 := hS.rg.2
      have he1 := hEr ((n : Nat) : Int) (2 * k)
      have he2 := hEr ((n : Nat) : Int) (2 * k + 1)
      refine pb_iload C dX12_of_25 (lv_at hl 4 rfl) ?_
      refine pb_aload_n C dX12_of_27 rfl (lv_at hl 3 rfl) ?_
      refine pb_go_x (bc' := 24 - n - 1) (bs' := 4 * (24 - n - 1)) (pb_runV (rest := [.int (iZ (((k : Nat) : Int)))]) C hG (met_X4_size l s9 _ (rowL L ((n : Nat) : Int)) hS) hSo (ci := 3) rfl (lw_V q985 q428 q429 q70 q430) ⟨rfl, hdX4_size⟩ rfl hl.1 rfl (Nat.le_of_ble_eq_true rfl) ⟨(Nat.le_of_ble_eq_true rfl), (Nat.le_of_ble_eq_true rfl)⟩ dX12_of_28) (by omega) (by omega) ?_
      refine pb_icmp_ge C dX12_of_31 (x := ((k : Nat) : Int)) (y := ((((rowL L ((n : Nat) : Int)).length / 2) : Nat) : Int)) (tgt := 66) (by decide) (by omega) (by omega) (fun c31_ => ?_) (fun c31_ => ?_)
      · have hk9 : k = (rowL L ((n : Nat) : Int)).length / 2 := by omega
        have hC9 := hC
        refine pb_iinc C dX12_of_66 hl (j := 2) (x := (((n : Nat) : Int))) rfl (by decide) rfl fun ls hl => ?_
        have hl : lv_has ls 5 [(2, .int (iZ ((((n + 1) : Nat) : Int)))), (0, .ref (a)), (1, .ref (H0.size)), (3, .ref (s9)), (4, .int (iZ (((k : Nat) : Int))))] := hl
        refine pb_goto C dX12_of_69 (tgt := 10) (by decide) ?_
        exact pb_V.mono (by omega) (by omega) (ih10 _ (by omega) (n + 1) H rfl hG (by omega) (by rw [hk9] at hC9; rw [← ofG_step]; exact hC9) hFF ls (lv_sub hl [1, 2, 0] rfl))
      · refine pb_aload_n C dX12_of_34 rfl (lv_at hl 1 rfl) ?_
        refine pb_get C in_X12 hCO.r (ci := 11) rfl 0 (by decide) q980 (fun _ h9 => h9) (v := .ref ((H0.size + 1))) rfl dX12_of_35 ?_
        refine pb_iload_n C dX12_of_38 rfl (lv_at hl 2 rfl) ?_
        refine pb_dup2 C dX12_of_39 rfl rfl ?_
        refine pb_iald C hCA.b (i := ((n : Nat) : Int)) (v := .int (iZ ((((ofE (rowL L ((n : Nat) : Int)) k) : Nat) : Int)))) (by omega) (by rw [Int.toNat_natCast]; exact congrArg (fun z : Nat => Value.int (iZ ((z : Nat) : Int))) (va_up_at _ _ _)) dX12_of_40 ?_
        refine pb_ic C dX12_of_41 ?_
        refine pb_aload_n C dX12_of_42 rfl (lv_at hl 3 rfl) ?_
        refine pb_iload C dX12_of_43 (lv_at hl 4 rfl) ?_
        refine pb_go_x (bc' := 24 - n - 1) (bs' := 4 * (24 - n - 1)) (pb_runV (rest := [.int (iZ (1)), .int (iZ ((((ofE (rowL L ((n : Nat) : Int)) k) : Nat) : Int))), .int (iZ (((n : Nat) : Int))), .ref ((H0.size + 1))]) C hG (met_X4_right l s9 _ (rowL L ((n : Nat) : Int)) hS k (by omega)) hSo (ci := 3) rfl (lw_V q986 q592 q593 q70 q594) ⟨rfl, hdX4_right⟩ rfl hl.1 rfl (Nat.le_of_ble_eq_true rfl) ⟨(Nat.le_of_ble_eq_true rfl), (Nat.le_of_ble_eq_true rfl)⟩ dX12_of_45) (by omega) (by omega) ?_
        refine pb_eq (g2 := F0 m_ 48 ls [.int (iZ ((((eE (rowL L ((n : Nat) : Int)) (2 * k + 1)).toNat : Nat) : Int))), .int (iZ (1)), .int (iZ ((((ofE (rowL L ((n : Nat) : Int)) k) : Nat) : Int))), .int (iZ (((n : Nat) : Int))), .ref ((H0.size + 1))]) (congrArg (fun z9 => F0 m_ 48 ls [.int (iZ z9), .int (iZ (1)), .int (iZ ((((ofE (rowL L ((n : Nat) : Int)) k) : Nat) : Int))), .int (iZ (((n : Nat) : Int))), .ref ((H0.size + 1))]) (show (eE (rowL L ((n : Nat) : Int)) (2 * k + 1)) = (((eE (rowL L ((n : Nat) : Int)) (2 * k + 1)).toNat : Nat) : Int) from (by omega))) ?_
        refine pb_ishl C dX12_of_48 (x := 1) (y := (eE (rowL L ((n : Nat) : Int)) (2 * k + 1)).toNat) (by omega) ?_
        refine pb_ic C dX12_of_49 ?_
        refine pb_aload_n C dX12_of_50 rfl (lv_at hl 3 rfl) ?_
        refine pb_iload C dX12_of_51 (lv_at hl 4 rfl) ?_
        refine pb_go_x (bc' := 24 - n - 1) (bs' := 4 * (24 - n - 1)) (pb_runV (rest := [.int (iZ (1)), .int (iZ ((((1 <<< (eE (rowL L ((n : Nat) : Int)) (2 * k + 1)).toNat) : Nat) : Int))), .int (iZ ((((ofE (rowL L ((n : Nat) : Int)) k) : Nat) : Int))), .int (iZ (((n : Nat) : Int))), .ref ((H0.size + 1))]) C hG (met_X4_left l s9 _ (rowL L ((n : Nat) : Int)) hS k (by omega)) hSo (ci := 3) rfl (lw_V q987 q588 q589 q70 q590) ⟨rfl, hdX4_left⟩ rfl hl.1 rfl (Nat.le_of_ble_eq_true rfl) ⟨(Nat.le_of_ble_eq_true rfl), (Nat.le_of_ble_eq_true rfl)⟩ dX12_of_53) (by omega) (by omega) ?_
        refine pb_eq (g2 := F0 m_ 56 ls [.int (iZ ((((eE (rowL L ((n : Nat) : Int)) (2 * k)).toNat : Nat) : Int))), .int (iZ (1)), .int (iZ ((((1 <<< (eE (rowL L ((n : Nat) : Int)) (2 * k + 1)).toNat) : Nat) : Int))), .int (iZ ((((ofE (rowL L ((n : Nat) : Int)) k) : Nat) : Int))), .int (iZ (((n : Nat) : Int))), .ref ((H0.size + 1))]) (congrArg (fun z9 => F0 m_ 56 ls [.int (iZ z9), .int (iZ (1)), .int (iZ ((((1 <<< (eE (rowL L ((n : Nat) : Int)) (2 * k + 1)).toNat) : Nat) : Int))), .int (iZ ((((ofE (rowL L ((n : Nat) : Int)) k) : Nat) : Int))), .int (iZ (((n : Nat) : Int))), .ref ((H0.size + 1))]) (show (eE (rowL L ((n : Nat) : Int)) (2 * k)) = (((eE (rowL L ((n : Nat) : Int)) (2 * k)).toNat : Nat) : Int) from (by omega))) ?_
        refine pb_ishl C dX12_of_56 (x := 1) (y := (eE (rowL L ((n : Nat) : Int)) (2 * k)).toNat) (by omega) ?_
        refine pb_isub C dX12_of_57 ?_
        refine pb_eq (g2 := F0 m_ 58 ls [.int (iZ ((((rngm (eE (rowL L ((n : Nat) : Int)) (2 * k)).toNat (eE (rowL L ((n : Nat) : Int)) (2 * k + 1)).toNat) : Nat) : Int))), .int (iZ ((((ofE (rowL L ((n : Nat) : Int)) k) : Nat) : Int))), .int (iZ (((n : Nat) : Int))), .ref ((H0.size + 1))]) (congrArg (fun z9 => F0 m_ 58 ls [.int (iZ z9), .int (iZ ((((ofE (rowL L ((n : Nat) : Int)) k) : Nat) : Int))), .int (iZ (((n : Nat) : Int))), .ref ((H0.size + 1))]) (show ((((1 <<< (eE (rowL L ((n : Nat) : Int)) (2 * k + 1)).toNat) : Nat) : Int) - (((1 <<< (eE (rowL L ((n : Nat) : Int)) (2 * k)).toNat) : Nat) : Int)) = (((rngm (eE (rowL L ((n : Nat) : Int)) (2 * k)).toNat (eE (rowL L ((n : Nat) : Int)) (2 * k + 1)).toNat) : Nat) : Int) from (by have h8 := hLe ((n : Nat) : Int) k (by omega); have := rngm_le (a := (eE (rowL L ((n : Nat) : Int)) (2 * k)).toNat) (b := (eE (rowL L ((n : Nat) : Int)) (2 * k + 1)).toNat) (by omega); unfold rngm; omega))) ?_
        refine pb_ior C dX12_of_58 (x := (ofE (rowL L ((n : Nat) : Int)) k)) (y := (rngm (eE (rowL L ((n : Nat) : Int)) (2 * k)).toNat (eE (rowL L ((n : Nat) : Int)) (2 * k + 1)).toNat)) ?_
        refine pb_iast C hCA (i := ((n : Nat) : Int)) (by omega) (by omega) dX12_of_59 fun H1_ hu_ hCA => ?_
        rw [pb_upN, Int.toNat_natCast, va_up2, show ofE (rowL L ((n : Nat) : Int)) k ||| rngm (eE (rowL L ((n : Nat) : Int)) (2 * k)).toNat (eE (rowL L ((n : Nat) : Int)) (2 * k + 1)).toNat = ofE (rowL L ((n : Nat) : Int)) (k + 1) from rfl] at hCA
        have hG := hG.kept (hu_.z (by omega))
        have hs_H1_ := hu_.1
        have hCO := hCO.kept (hu_.2 _ (by omega))
        have hFF := hFF.tr (hu_.f.mono (fun q _ (hq : q < H0.size) => show q ≠ _ from by omega))
        have hC : Cb w H1_ H0.size H0.size (H0.size + 1) ((va_up (ofG L n) n (ofE (rowL L ((n : Nat) : Int)) (k + 1)))) := ⟨hcz, hrz, hCO, hCA, gok_up (gok_of hEr (by omega)) (by omega) (ofE_lt (hEr _) _)⟩
        have hS := hS.kept hu_.f
        refine pb_iinc C dX12_of_60 hl (j := 4) (x := (((k : Nat) : Int))) rfl (by decide) rfl fun ls hl => ?_
        have hl : lv_has ls 5 [(4, .int (iZ ((((k + 1) : Nat) : Int)))), (0, .ref (a)), (1, .ref (H0.size)), (2, .int (iZ (((n : Nat) : Int)))), (3, .ref (s9))] := hl
        refine pb_goto C dX12_of_63 (tgt := 25) (by decide) ?_
        exact pb_V.mono (by omega) (by omega) (ih25 _ (by omega) (k + 1) s9 H1_ rfl hG (by omega) (by omega) hS hC hFF ls (lv_sub hl [1, 2, 3, 4, 0] rfl))
    refine pb_iload_n C dX12_of_10 rfl (lv_at hl 2 rfl) ?_
    refine pb_bip C dX12_of_11 (by decide) ?_
    refine pb_icmp_ge C dX12_of_13 (x := ((n : Nat) : Int)) (y := 24) (tgt := 72) (by decide) (by omega) (by omega) (fun c13_ => ?_) (fun c13_ => ?_)
    · refine pb_aload_n C dX12_of_72 rfl (lv_at hl 1 rfl) ?_
      exact pb_aret C (Or.inl ⟨_, rfl⟩) dX12_of_73 (Or.inr ⟨_, rfl⟩) (⟨_, rfl, by rw [show 24 = n from by omega]; exact hC, hFF⟩)
    · refine pb_aload_n C dX12_of_16 rfl (lv_at hl 0 rfl) ?_
      refine pb_iload_n C dX12_of_17 rfl (lv_at hl 2 rfl) ?_
      refine pb_go_r (bc' := 24 - n - 1) (bs' := 4 * (24 - n) - 4) (pb_runV (rest := []) C hG (met_X2_spansAt l a _ L (hR.kept hFF) ((n : Nat) : Int) (by omega)) hRo (ci := 1) rfl (lw_V q984 q688 q689 q55 q690) ⟨rfl, hdX2_spansAt⟩ rfl hl.1 rfl (Nat.le_of_ble_eq_true rfl) ⟨(Nat.le_of_ble_eq_true rfl), (Nat.le_of_ble_eq_true rfl)⟩ dX12_of_18) (by omega) (by omega) (fun s9 H_ hp_ => ?_)
      obtain ⟨hS, hF1⟩ := hp_
      have hG := hG.kept (hF1.mono (fun q _ (hq : q < w.2.2.2) => Nat.lt_of_lt_of_le hq hG.1))
      have hC := hC.kq hF1 hC.2.2.1.lt hC.2.2.2.1.lt
      have hFF := hFF.tr (hF1.mono (fun q _ (hq : q < H0.size) => Nat.lt_of_lt_of_le hq hFF.1))
      refine pb_astore_n C dX12_of_21 rfl hl (by decide) rfl fun ls hl => ?_
      have hl : lv_has ls 5 [(3, .ref (s9)), (0, .ref (a)), (1, .ref (H0.size)), (2, .int (iZ (((n : Nat) : Int))))] := hl
      refine pb_ic C dX12_of_22 ?_
      refine pb_istore C dX12_of_23 hl (by decide) rfl fun ls hl => ?_
      have hl : lv_has ls 5 [(4, .int (iZ (0))), (3, .ref (s9)), (0, .ref (a)), (1, .ref (H0.size)), (2, .int (iZ (((n : Nat) : Int))))] := hl
      exact pb_V.mono (by omega) (by omega) (L25 _ 0 s9 H_ rfl hG (by omega) (by omega) (hS.mono (fun q h1 h2 => fun e9 => h2.elim (fun h3 => absurd (show q < H0.size from h3) (by omega)) (fun h3 => absurd h3 (by omega)))) (by rw [ofE, vup_self _ _ (show ofG L n n = 0 from if_neg (Nat.lt_irrefl _))]; exact hC) hFF ls (lv_sub hl [2, 3, 4, 1, 0] rfl))
  refine pb_newE C in_X12 tyX12 tyX12_ok (ci := 11) rfl q974 q975 q82 (fs := [.null]) (by decide) (bc' := 25) (bs' := 120) (by omega) (by omega) dX12_of_0 fun a2_ H2_ ha_ hn_ hN2_ => ?_
  have hs2_ : H2_.size = H0.size + 1 := hn_.1
  have hG := hG.kept (hn_.f.mono (fun _ _ _ => trivial))
  have hFF := hFF.tr (hn_.f.mono (fun _ _ _ => trivial))
  obtain rfl : a2_ = H0.size := by omega
  skip
  have hN := hN2_
  refine pb_dup C dX12_of_3 rfl ?_
  have hz9 := hFF.1
  refine pb_go_v (bc' := 24) (bs' := 96) (pb_runI (rest := [.ref (H0.size)]) C hG (met_X12_init l H0.size H0.size (by omega) (by omega) hN) q976 q977 q82 q978 rfl hdX12_init rfl hl.1 rfl (Nat.le_of_ble_eq_true rfl) ⟨(Nat.le_of_ble_eq_true rfl), (Nat.le_of_ble_eq_true rfl)⟩ dX12_of_4) (by omega) (by omega) (fun H_ hp_ => ?_)
  obtain ⟨hC, hF1⟩ := hp_
  have hG := hG.kept (hF1.mono (fun q hq9 (hq : q < w.2.2.2) => ⟨hq9, show q ≠ _ from by omega⟩))
  have hFF := hFF.tr (hF1.mono (fun q hq9 (hq : q < H0.size) => ⟨hq9, show q ≠ _ from by omega⟩))
  rw [hs2_] at hC
  obtain ⟨hcz, hrz, hCO, hCA, hCok⟩ := id hC
  have hrlt := hCA.lt
  have hclt := hCO.lt
  refine pb_astore_n C dX12_of_7 rfl hl (by decide) rfl fun ls hl => ?_
  have hl : lv_has ls 5 [(1, .ref (H0.size)), (0, .ref (a))] := hl
  refine pb_ic C dX12_of_8 ?_
  refine pb_istore_n C dX12_of_9 rfl hl (by decide) rfl fun ls hl => ?_
  have hl : lv_has ls 5 [(2, .int (iZ (0))), (1, .ref (H0.size)), (0, .ref (a))] := hl
  exact pb_V.mono (by omega) (by omega) (L10 _ 0 H_ rfl hG (by omega) hC hFF ls (lv_sub hl [2, 1, 0] rfl))

