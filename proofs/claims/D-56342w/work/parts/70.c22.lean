set_option maxRecDepth 100000
set_option maxHeartbeats 1000000 in
theorem met_X12_others {w : pb_W} (l : Launch) {H0 : Heap} (c : Nat) (P : Nat → Prop) (g : Nat → Nat) (hQ : Cq w H0 P c g) : pb_M w l yX12_others cX12_others 3 (some (.object "PolygonBoard$Cells")) 2 (2) (25) [.ref (c)] H0 (pb_qr (fun o H1 => Cb w H1 H0.size o (H0.size + 1) (otG g 24) ∧ pb_F (fun q => q < H0.size) H0 H1)) := by
  refine pb_of (by decide +kernel) (Nat.le_of_ble_eq_true rfl) ?_
  intro p_ e_ s_ m_ ar_ bl_ me_ co_ ls C hh hG hl
  have hl : lv_has ls 3 [(0, .ref (c))] := hl
  have hzs := hG.1
  have hFF : pb_F (fun q => q < H0.size) H0 H0 := pb_F.rf
  have hQ : Cq w H0 (fun q => q < H0.size) c g := hQ.mono (fun q h _ => h)
  have L10 : ∀ (n_ : Nat) (n : Nat) (H : Heap), 24 - n = n_ → (pb_G w s_ H) → (n ≤ 24) → (Cb w H H0.size H0.size (H0.size + 1) ((otG g n))) → (pb_F (fun q => q < H0.size) H0 H) → ∀ (ls : Array Slot), lv_has ls 3 [(0, .ref (c)), (1, .ref (H0.size)), (2, .int (iZ (((n : Nat) : Int))))] → pb_V w.2.2.2 p_ l e_ (pb_rm 2 (2) (25)) s_ m_ ar_ bl_ me_ co_ H (0) (0) (pb_E w bl_ ar_ s_ (2) (25) (pb_qr (fun o H1 => Cb w H1 H0.size o (H0.size + 1) (otG g 24) ∧ pb_F (fun q => q < H0.size) H0 H1))) (F0 m_ 10 ls []) := by
    intro n_
    induction n_ using Nat.strongRecOn with
    | _ n_ ih10 =>
    intro n H hm_ hG hn hC hFF ls hl
    obtain ⟨hcz, hrz, hCO, hCA, hCok⟩ := id hC
    have hQ := hQ.kept hFF
    obtain ⟨r, hPc, hPr, hO, hA, hok⟩ := id hQ
    have hgn := hok.1 n
    have hrlt : r < H0.size := hPr
    refine pb_iload_n C dX12_others_10 rfl (lv_at hl 2 rfl) ?_
    refine pb_bip C dX12_others_11 (by decide) ?_
    refine pb_icmp_ge C dX12_others_13 (x := ((n : Nat) : Int)) (y := 24) (tgt := 39) (by decide) (by omega) (by omega) (fun c13_ => ?_) (fun c13_ => ?_)
    · refine pb_aload_n C dX12_others_39 rfl (lv_at hl 1 rfl) ?_
      exact pb_aret C (Or.inl ⟨_, rfl⟩) dX12_others_40 (Or.inr ⟨_, rfl⟩) (⟨_, rfl, by rw [show 24 = n from by omega]; exact hC, hFF⟩)
    · refine pb_aload_n C dX12_others_16 rfl (lv_at hl 1 rfl) ?_
      refine pb_get C in_X12 hCO.r (ci := 11) rfl 0 (by decide) q980 (fun _ h9 => h9) (v := .ref ((H0.size + 1))) rfl dX12_others_17 ?_
      refine pb_iload_n C dX12_others_20 rfl (lv_at hl 2 rfl) ?_
      refine pb_ldc C dX12_others_21 q992 (16777215) (by decide +kernel) ?_
      refine pb_aload_n C dX12_others_23 rfl (lv_at hl 0 rfl) ?_
      refine pb_get C in_X12 hO (ci := 11) rfl 0 (by decide) q980 (fun _ h9 => h9) (v := .ref (r)) rfl dX12_others_24 ?_
      refine pb_iload_n C dX12_others_27 rfl (lv_at hl 2 rfl) ?_
      refine pb_iald C hA (i := ((n : Nat) : Int)) (v := .int (iZ ((((g n) : Nat) : Int)))) (by omega) rfl dX12_others_28 ?_
      refine pb_ic C dX12_others_29 ?_
      refine pb_inot C dX12_others_30 (x := (((g n) : Nat) : Int)) ?_
      refine pb_iandn C dX12_others_31 (x := 16777215) (y := (g n)) ?_
      refine pb_iast C hCA (i := ((n : Nat) : Int)) (by omega) (by omega) dX12_others_32 fun H1_ hu_ hCA => ?_
      rw [pb_upN, Int.toNat_natCast, show va_up (otG g n) n (pb_dif 16777215 (g n)) = otG g (n + 1) from up_fn (φ := fun y => pb_dif 16777215 (g y)) (fun _ => 0) rfl] at hCA
      have hG := hG.kept (hu_.z (by omega))
      have hs_H1_ := hu_.1
      have hCO := hCO.kept (hu_.2 _ (by omega))
      have hO := hO.kept (hu_.2 _ (show c ≠ H0.size + 1 from by have h9 : c < H0.size := hPc; omega))
      have hA := hA.kept (hu_.2 _ (show r ≠ H0.size + 1 from by omega))
      have hFF := hFF.tr (hu_.f.mono (fun q _ (hq : q < H0.size) => show q ≠ _ from by omega))
      refine pb_iinc C dX12_others_33 hl (j := 2) (x := (((n : Nat) : Int))) rfl (by decide) rfl fun ls hl => ?_
      have hl : lv_has ls 3 [(2, .int (iZ ((((n + 1) : Nat) : Int)))), (0, .ref (c)), (1, .ref (H0.size))] := hl
      refine pb_goto C dX12_others_36 (tgt := 10) (by decide) ?_
      exact pb_V.mono (by omega) (by omega) (ih10 _ (by omega) (n + 1) H1_ rfl hG (by omega) ⟨hcz, hrz, hCO, hCA, gok_ot (by omega)⟩ hFF ls (lv_sub hl [1, 2, 0] rfl))
  refine pb_newE C in_X12 tyX12 tyX12_ok (ci := 11) rfl q974 q975 q82 (fs := [.null]) (by decide) (bc' := 1) (bs' := 24) (by omega) (by omega) dX12_others_0 fun a2_ H2_ ha_ hn_ hN2_ => ?_
  have hs2_ : H2_.size = H0.size + 1 := hn_.1
  have hG := hG.kept (hn_.f.mono (fun _ _ _ => trivial))
  have hFF := hFF.tr (hn_.f.mono (fun _ _ _ => trivial))
  obtain rfl : a2_ = H0.size := by omega
  skip
  have hN := hN2_
  refine pb_dup C dX12_others_3 rfl ?_
  have hz9 := hFF.1
  refine pb_go_v (bc' := 0) (bs' := 0) (pb_runI (rest := [.ref (H0.size)]) C hG (met_X12_init l H0.size H0.size (by omega) (by omega) hN) q976 q977 q82 q978 rfl hdX12_init rfl hl.1 rfl (Nat.le_of_ble_eq_true rfl) ⟨(Nat.le_of_ble_eq_true rfl), (Nat.le_of_ble_eq_true rfl)⟩ dX12_others_4) (by omega) (by omega) (fun H_ hp_ => ?_)
  obtain ⟨hC, hF1⟩ := hp_
  have hG := hG.kept (hF1.mono (fun q hq9 (hq : q < w.2.2.2) => ⟨hq9, show q ≠ _ from by omega⟩))
  have hFF := hFF.tr (hF1.mono (fun q hq9 (hq : q < H0.size) => ⟨hq9, show q ≠ _ from by omega⟩))
  rw [hs2_] at hC
  obtain ⟨hcz, hrz, hCO, hCA, hCok⟩ := id hC
  have hrlt := hCA.lt
  have hclt := hCO.lt
  refine pb_astore_n C dX12_others_7 rfl hl (by decide) rfl fun ls hl => ?_
  have hl : lv_has ls 3 [(1, .ref (H0.size)), (0, .ref (c))] := hl
  refine pb_ic C dX12_others_8 ?_
  refine pb_istore_n C dX12_others_9 rfl hl (by decide) rfl fun ls hl => ?_
  have hl : lv_has ls 3 [(2, .int (iZ (0))), (1, .ref (H0.size)), (0, .ref (c))] := hl
  exact pb_V.mono (by omega) (by omega) (L10 _ 0 H_ rfl hG (by omega) hC hFF ls (lv_sub hl [2, 1, 0] rfl))

set_option maxHeartbeats 1000000 in
theorem met_X12_remove {w : pb_W} (l : Launch) {H0 : Heap} (z c r d : Nat) (P : Nat → Prop) (g o : Nat → Nat) (hC : Cb w H0 z c r g) (hz : w.2.2.2 ≤ z) (hQ2 : Cq w H0 P d o) (hPn : ¬ P r) : pb_M w l yX12_remove cX12_remove 3 none 0 (0) (0) [.ref (c), .ref (d)] H0 (pb_qv (fun H1 => Cb w H1 z c r (rmG g o 24) ∧ pb_F (fun q => q ≠ r) H0 H1)) := by
  refine pb_of (by decide +kernel) (Nat.le_of_ble_eq_true rfl) ?_
  intro p_ e_ s_ m_ ar_ bl_ me_ co_ ls C hh hG hl
  have hl : lv_has ls 3 [(0, .ref (c)), (1, .ref (d))] := hl
  have hFF : pb_F (fun q => q ≠ r) H0 H0 := pb_F.rf
  have hg0 := hC.ok
  have hz1 := hC.2.1
  have L2 : ∀ (n_ : Nat) (n : Nat) (H : Heap), 24 - n = n_ → (pb_G w s_ H) → (n ≤ 24) → (Cb w H z c r (rmG g o n)) → (pb_F (fun q => q ≠ r) H0 H) → ∀ (ls : Array Slot), lv_has ls 3 [(0, .ref (c)), (1, .ref (d)), (2, .int (iZ (((n : Nat) : Int))))] → pb_V w.2.2.2 p_ l e_ (pb_rm 0 (0) (0)) s_ m_ ar_ bl_ me_ co_ H (0) (0) (pb_E w bl_ ar_ s_ (0) (0) (pb_qv (fun H1 => Cb w H1 z c r (rmG g o 24) ∧ pb_F (fun q => q ≠ r) H0 H1))) (F0 m_ 2 ls []) := by
    intro n_
    induction n_ using Nat.strongRecOn with
    | _ n_ ih2 =>
    intro n H hm_ hG hn hC hFF ls hl
    obtain ⟨hcz, hrz, hCO, hCA, hCok⟩ := id hC
    have hQ2 := hQ2.kept (hFF.mono (fun q _ hq => fun e9 => hPn (e9 ▸ hq)))
    obtain ⟨r2, hPc2, hPr2, hO2, hA2, hok2⟩ := id hQ2
    have hgn := hok2.1 n
    have hgr := hCok.1 n
    have hne2 : r2 ≠ r := fun e9 => hPn (e9 ▸ hPr2)
    have hnc2 : d ≠ r := fun e9 => hPn (e9 ▸ hPc2)
    have hncr : c ≠ r := hCO.r.ty.1.ne C.inj hCA.b.ty (by decide) (by decide) (by decide)
    refine pb_iload_n C dX12_remove_2 rfl (lv_at hl 2 rfl) ?_
    refine pb_bip C dX12_remove_3 (by decide) ?_
    refine pb_icmp_ge C dX12_remove_5 (x := ((n : Nat) : Int)) (y := 24) (tgt := 31) (by decide) (by omega) (by omega) (fun c5_ => ?_) (fun c5_ => ?_)
    · exact pb_vret C dX12_remove_31 (⟨rfl, by rw [show 24 = n from by omega]; exact hC, hFF⟩)
    · refine pb_aload_n C dX12_remove_8 rfl (lv_at hl 0 rfl) ?_
      refine pb_get C in_X12 hCO.r (ci := 11) rfl 0 (by decide) q980 (fun _ h9 => h9) (v := .ref (r)) rfl dX12_remove_9 ?_
      refine pb_iload_n C dX12_remove_12 rfl (lv_at hl 2 rfl) ?_
      refine pb_dup2 C dX12_remove_13 rfl rfl ?_
      refine pb_iald C hCA.b (i := ((n : Nat) : Int)) (v := .int (iZ ((((g n) : Nat) : Int)))) (by omega) (by rw [Int.toNat_natCast]; exact congrArg (fun z : Nat => Value.int (iZ ((z : Nat) : Int))) (if_neg (Nat.lt_irrefl _))) dX12_remove_14 ?_
      refine pb_aload_n C dX12_remove_15 rfl (lv_at hl 1 rfl) ?_
      refine pb_get C in_X12 hO2 (ci := 11) rfl 0 (by decide) q980 (fun _ h9 => h9) (v := .ref (r2)) rfl dX12_remove_16 ?_
      refine pb_iload_n C dX12_remove_19 rfl (lv_at hl 2 rfl) ?_
      refine pb_iald C hA2 (i := ((n : Nat) : Int)) (v := .int (iZ ((((o n) : Nat) : Int)))) (by omega) rfl dX12_remove_20 ?_
      refine pb_ic C dX12_remove_21 ?_
      refine pb_inot C dX12_remove_22 (x := (((o n) : Nat) : Int)) ?_
      refine pb_iandn C dX12_remove_23 (x := (g n)) (y := (o n)) ?_
      refine pb_iast C hCA (i := ((n : Nat) : Int)) (by omega) (by omega) dX12_remove_24 fun H1_ hu_ hCA => ?_
      rw [pb_upN, Int.toNat_natCast, show va_up (rmG g o n) n (pb_dif (g n) (o n)) = rmG g o (n + 1) from up_fn (φ := fun y => pb_dif (g y) (o y)) g rfl] at hCA
      have hG := hG.kept (hu_.z (by omega))
      have hs_H1_ := hu_.1
      have hCO := hCO.kept (hu_.2 _ hncr)
      have hO2 := hO2.kept (hu_.2 _ hnc2)
      have hA2 := hA2.kept (hu_.2 _ hne2)
      have hFF := hFF.tr hu_.f
      refine pb_iinc C dX12_remove_25 hl (j := 2) (x := (((n : Nat) : Int))) rfl (by decide) rfl fun ls hl => ?_
      have hl : lv_has ls 3 [(2, .int (iZ ((((n + 1) : Nat) : Int)))), (0, .ref (c)), (1, .ref (d))] := hl
      refine pb_goto C dX12_remove_28 (tgt := 2) (by decide) ?_
      exact pb_V.mono (by omega) (by omega) (ih2 _ (by omega) (n + 1) H1_ rfl hG (by omega) ⟨hcz, hrz, hCO, hCA, gok_rm hg0 (by omega)⟩ hFF ls (lv_sub hl [1, 2, 0] rfl))
  refine pb_ic C dX12_remove_0 ?_
  refine pb_istore_n C dX12_remove_1 rfl hl (by decide) rfl fun ls hl => ?_
  have hl : lv_has ls 3 [(2, .int (iZ (0))), (0, .ref (c)), (1, .ref (d))] := hl
  exact pb_V.mono (by omega) (by omega) (L2 _ 0 H0 rfl hG (by omega) hC hFF ls (lv_sub hl [1, 2, 0] rfl))

set_option maxHeartbeats 1000000 in
theorem met_X12_isAtRim {w : pb_W} (l : Launch) {H : Heap} (c : Nat) (P : Nat → Prop) (g : Nat → Nat) (hQ : Cq w H P c g) : pb_M w l yX12_isAtRim cX12_isAtRim 6 (some .boolean) 0 (0) (0) [.ref (c)] H (pb_qx (.int (iZ (bI (rimG g 24)))) H) := by
  refine pb_of (by decide +kernel) (Nat.le_of_ble_eq_true rfl) ?_
  intro p_ e_ s_ m_ ar_ bl_ me_ co_ ls C hh hG hl
  have hl : lv_has ls 6 [(0, .ref (c))] := hl
  obtain ⟨r, hPc, hPr, hO, hA, hok⟩ := id hQ
  have L36 : ∀ (n_ : Nat) (k : Nat) (m : Bool), 24 - k = n_ → (k ≤ 24) → (m = rimG g k) → ∀ (ls : Array Slot), lv_has ls 6 [(1, .int (iZ ((bI (m))))), (2, .ref (r)), (3, .int (iZ (((24 : Nat) : Int)))), (4, .int (iZ (((k : Nat) : Int))))] → pb_V w.2.2.2 p_ l e_ (pb_rm 0 (0) (0)) s_ m_ ar_ bl_ me_ co_ H (0) (0) (pb_E w bl_ ar_ s_ (0) (0) (pb_qx (.int (iZ (bI (rimG g 24)))) H)) (F0 m_ 36 ls []) := by
    intro n_
    induction n_ using Nat.strongRecOn with
    | _ n_ ih36 =>
    intro k m hm_ hk hm ls hl
    have L69 : ∀ (dd : Bool), (dd = (decide (g k &&& 1 ≠ 0) || decide (g k >>> 23 ≠ 0))) → (k < 24) →  ∀ (ls : Array Slot), lv_has ls 6 [(2, .ref (r)), (3, .int (iZ (((24 : Nat) : Int)))), (4, .int (iZ (((k : Nat) : Int))))] → pb_V w.2.2.2 p_ l e_ (pb_rm 0 (0) (0)) s_ m_ ar_ bl_ me_ co_ H (0) (0) (pb_E w bl_ ar_ s_ (0) (0) (pb_qx (.int (iZ (bI (rimG g 24)))) H)) (F0 m_ 69 ls [.int (iZ ((bI (dd)))), .int (iZ ((bI (m))))]) := by
      intro dd hdd hk1 ls hl
      refine pb_iorB C dX12_isAtRim_69 ?_
      refine pb_istore_n C dX12_isAtRim_70 rfl hl (by decide) rfl fun ls hl => ?_
      have hl : lv_has ls 6 [(1, .int (iZ ((bI ((m || dd)))))), (2, .ref (r)), (3, .int (iZ (((24 : Nat) : Int)))), (4, .int (iZ (((k : Nat) : Int))))] := hl
      refine pb_iinc C dX12_isAtRim_71 hl (j := 3) (x := (((k : Nat) : Int))) rfl (by decide) rfl fun ls hl => ?_
      have hl : lv_has ls 6 [(4, .int (iZ ((((k + 1) : Nat) : Int)))), (1, .int (iZ ((bI ((m || dd)))))), (2, .ref (r)), (3, .int (iZ (((24 : Nat) : Int))))] := hl
      refine pb_goto C dX12_isAtRim_74 (tgt := 36) (by decide) ?_
      exact pb_V.mono (by omega) (by omega) (ih36 _ (by omega) (k + 1) (m || dd) rfl (by omega) (by rw [rimG, ← hm, ← hdd]) ls (lv_sub hl [1, 2, 3, 0] rfl))
    refine pb_iload C dX12_isAtRim_36 (lv_at hl 3 rfl) ?_
    refine pb_iload_n C dX12_isAtRim_38 rfl (lv_at hl 2 rfl) ?_
    refine pb_icmp_ge C dX12_isAtRim_39 (x := ((k : Nat) : Int)) (y := ((24 : Nat) : Int)) (tgt := 77) (by decide) (by omega) (by omega) (fun c39_ => ?_) (fun c39_ => ?_)
    · refine pb_iload_n C dX12_isAtRim_77 rfl (lv_at hl 0 rfl) ?_
      exact pb_zret C dX12_isAtRim_78 (pb_nar (m)) (⟨by rw [hm, show k = 24 from by omega], rfl⟩)
    · refine pb_aload_n C dX12_isAtRim_42 rfl (lv_at hl 1 rfl) ?_
      refine pb_iload C dX12_isAtRim_43 (lv_at hl 3 rfl) ?_
      have hgk := hok.1 k
      have hle1 := pb_a1 (g k)
      have hsr := Nat.shiftRight_le (g k) 23
      refine pb_iald C hA (i := ((k : Nat) : Int)) (v := .int (iZ ((((g k) : Nat) : Int)))) (by omega) rfl dX12_isAtRim_45 ?_
      refine pb_istore C dX12_isAtRim_46 hl (by decide) rfl fun ls hl => ?_
      have hl : lv_has ls 6 [(5, .int (iZ ((((g k) : Nat) : Int)))), (1, .int (iZ ((bI (m))))), (2, .ref (r)), (3, .int (iZ (((24 : Nat) : Int)))), (4, .int (iZ (((k : Nat) : Int))))] := hl
      refine pb_iload_n C dX12_isAtRim_48 rfl (lv_at hl 1 rfl) ?_
      refine pb_iload C dX12_isAtRim_49 (lv_at hl 0 rfl) ?_
      refine pb_ic C dX12_isAtRim_51 ?_
      refine pb_iand C dX12_isAtRim_52 (x := (g k)) (y := 1) ?_
      refine pb_if_ne C dX12_isAtRim_53 (x := ((((g k) &&& 1) : Nat) : Int)) (tgt := 64) (by decide) (by omega) (fun c53_ => ?_) (fun c53_ => ?_)
      · refine pb_ic C dX12_isAtRim_64 ?_
        refine pb_goto C dX12_isAtRim_65 (tgt := 69) (by decide) ?_
        exact pb_V.mono (by omega) (by omega) (L69 true (by rw [decide_eq_true (by omega)]; rfl) (by omega) ls (lv_sub hl [2, 3, 4] rfl))
      · refine pb_iload C dX12_isAtRim_56 (lv_at hl 0 rfl) ?_
        refine pb_bip C dX12_isAtRim_58 (by decide) ?_
        refine pb_ishr C dX12_isAtRim_60 (x := (g k)) (y := 23) (by omega) (by omega) ?_
        refine pb_if_eq C dX12_isAtRim_61 (x := ((((g k) >>> 23) : Nat) : Int)) (tgt := 68) (by decide) (by omega) (fun c61_ => ?_) (fun c61_ => ?_)
        · refine pb_ic C dX12_isAtRim_68 ?_
          exact pb_V.mono (by omega) (by omega) (L69 false (by rw [decide_eq_false (by omega), decide_eq_false (by omega)]; rfl) (by omega) ls (lv_sub hl [2, 3, 4] rfl))
        · refine pb_ic C dX12_isAtRim_64 ?_
          refine pb_goto C dX12_isAtRim_65 (tgt := 69) (by decide) ?_
          exact pb_V.mono (by omega) (by omega) (L69 true (by rw [decide_eq_false (by omega), decide_eq_true (by omega)]; rfl) (by omega) ls (lv_sub hl [2, 3, 4] rfl))
  refine pb_aload_n C dX12_isAtRim_0 rfl (lv_at hl 0 rfl) ?_
  refine pb_get C in_X12 hO (ci := 11) rfl 0 (by decide) q980 (fun _ h9 => h9) (v := .ref (r)) rfl dX12_isAtRim_1 ?_
  refine pb_ic C dX12_isAtRim_4 ?_
  have hg0 := hok.1 0
  have hg23 := hok.1 23
  refine pb_iald C hA (i := 0) (v := .int (iZ ((((g 0) : Nat) : Int)))) (by omega) rfl dX12_isAtRim_5 ?_
  refine pb_if_ne C dX12_isAtRim_6 (x := (((g 0) : Nat) : Int)) (tgt := 19) (by decide) (by omega) (fun c6_ => ?_) (fun c6_ => ?_)
  · refine pb_ic C dX12_isAtRim_19 ?_
    refine pb_goto C dX12_isAtRim_20 (tgt := 24) (by decide) ?_
    refine pb_istore_n C dX12_isAtRim_24 rfl hl (by decide) rfl fun ls hl => ?_
    have hl : lv_has ls 6 [(1, .int (iZ (1))), (0, .ref (c))] := hl
    refine pb_aload_n C dX12_isAtRim_25 rfl (lv_at hl 1 rfl) ?_
    refine pb_get C in_X12 hO (ci := 11) rfl 0 (by decide) q980 (fun _ h9 => h9) (v := .ref (r)) rfl dX12_isAtRim_26 ?_
    refine pb_astore_n C dX12_isAtRim_29 rfl hl (by decide) rfl fun ls hl => ?_
    have hl : lv_has ls 6 [(2, .ref (r)), (1, .int (iZ (1))), (0, .ref (c))] := hl
    refine pb_aload_n C dX12_isAtRim_30 rfl (lv_at hl 0 rfl) ?_
    refine pb_alen C (t := 0) (by decide) hA dX12_isAtRim_31 ?_
    refine pb_istore_n C dX12_isAtRim_32 rfl hl (by decide) rfl fun ls hl => ?_
    have hl : lv_has ls 6 [(3, .int (iZ (((24 : Nat) : Int)))), (2, .ref (r)), (1, .int (iZ (1))), (0, .ref (c))] := hl
    refine pb_ic C dX12_isAtRim_33 ?_
    refine pb_istore C dX12_isAtRim_34 hl (by decide) rfl fun ls hl => ?_
    have hl : lv_has ls 6 [(4, .int (iZ (0))), (3, .int (iZ (((24 : Nat) : Int)))), (2, .ref (r)), (1, .int (iZ (1))), (0, .ref (c))] := hl
    exact pb_V.mono (by omega) (by omega) (L36 _ 0 true rfl (by omega) (by rw [rimG]; rw [decide_eq_true (by omega)]; rfl) ls (lv_sub hl [3, 2, 1, 0] rfl))
  · refine pb_aload_n C dX12_isAtRim_9 rfl (lv_at hl 0 rfl) ?_
    refine pb_get C in_X12 hO (ci := 11) rfl 0 (by decide) q980 (fun _ h9 => h9) (v := .ref (r)) rfl dX12_isAtRim_10 ?_
    refine pb_bip C dX12_isAtRim_13 (by decide) ?_
    refine pb_iald C hA (i := 23) (v := .int (iZ ((((g 23) : Nat) : Int)))) (by omega) rfl dX12_isAtRim_15 ?_
    refine pb_if_eq C dX12_isAtRim_16 (x := (((g 23) : Nat) : Int)) (tgt := 23) (by decide) (by omega) (fun c16_ => ?_) (fun c16_ => ?_)
    · refine pb_ic C dX12_isAtRim_23 ?_
      refine pb_istore_n C dX12_isAtRim_24 rfl hl (by decide) rfl fun ls hl => ?_
      have hl : lv_has ls 6 [(1, .int (iZ (0))), (0, .ref (c))] := hl
      refine pb_aload_n C dX12_isAtRim_25 rfl (lv_at hl 1 rfl) ?_
      refine pb_get C in_X12 hO (ci := 11) rfl 0 (by decide) q980 (fun _ h9 => h9) (v := .ref (r)) rfl dX12_isAtRim_26 ?_
      refine pb_astore_n C dX12_isAtRim_29 rfl hl (by decide) rfl fun ls hl => ?_
      have hl : lv_has ls 6 [(2, .ref (r)), (1, .int (iZ (0))), (0, .ref (c))] := hl
      refine pb_aload_n C dX12_isAtRim_30 rfl (lv_at hl 0 rfl) ?_
      refine pb_alen C (t := 0) (by decide) hA dX12_isAtRim_31 ?_
      refine pb_istore_n C dX12_isAtRim_32 rfl hl (by decide) rfl fun ls hl => ?_
      have hl : lv_has ls 6 [(3, .int (iZ (((24 : Nat) : Int)))), (2, .ref (r)), (1, .int (iZ (0))), (0, .ref (c))] := hl
      refine pb_ic C dX12_isAtRim_33 ?_
      refine pb_istore C dX12_isAtRim_34 hl (by decide) rfl fun ls hl => ?_
      have hl : lv_has ls 6 [(4, .int (iZ (0))), (3, .int (iZ (((24 : Nat) : Int)))), (2, .ref (r)), (1, .int (iZ (0))), (0, .ref (c))] := hl
      exact pb_V.mono (by omega) (by omega) (L36 _ 0 false rfl (by omega) (by rw [rimG]; rw [decide_eq_false (by omega), decide_eq_false (by omega)]; rfl) ls (lv_sub hl [3, 2, 1, 0] rfl))
    · refine pb_ic C dX12_isAtRim_19 ?_
      refine pb_goto C dX12_isAtRim_20 (tgt := 24) (by decide) ?_
      refine pb_istore_n C dX12_isAtRim_24 rfl hl (by decide) rfl fun ls hl => ?_
      have hl : lv_has ls 6 [(1, .int (iZ (1))), (0, .ref (c))] := hl
      refine pb_aload_n C dX12_isAtRim_25 rfl (lv_at hl 1 rfl) ?_
      refine pb_get C in_X12 hO (ci := 11) rfl 0 (by decide) q980 (fun _ h9 => h9) (v := .ref (r)) rfl dX12_isAtRim_26 ?_
      refine pb_astore_n C dX12_isAtRim_29 rfl hl (by decide) rfl fun ls hl => ?_
      have hl : lv_has ls 6 [(2, .ref (r)), (1, .int (iZ (1))), (0, .ref (c))] := hl
      refine pb_aload_n C dX12_isAtRim_30 rfl (lv_at hl 0 rfl) ?_
      refine pb_alen C (t := 0) (by decide) hA dX12_isAtRim_31 ?_
      refine pb_istore_n C dX12_isAtRim_32 rfl hl (by decide) rfl fun ls hl => ?_
      have hl : lv_has ls 6 [(3, .int (iZ (((24 : Nat) : Int)))), (2, .ref (r)), (1, .int (iZ (1))), (0, .ref (c))] := hl
      refine pb_ic C dX12_isAtRim_33 ?_
      refine pb_istore C dX12_isAtRim_34 hl (by decide) rfl fun ls hl => ?_
      have hl : lv_has ls 6 [(4, .int (iZ (0))), (3, .int (iZ (((24 : Nat) : Int)))), (2, .ref (r)), (1, .int (iZ (1))), (0, .ref (c))] := hl
      exact pb_V.mono (by omega) (by omega) (L36 _ 0 true rfl (by omega) (by rw [rimG]; rw [decide_eq_false (by omega), decide_eq_true (by omega)]; rfl) ls (lv_sub hl [3, 2, 1, 0] rfl))

set_option maxHeartbeats 1000000 in
theorem met_X12_toRegion {w : pb_W} (l : Launch) {H0 : Heap} (c : Nat) (P : Nat → Prop) (g : Nat → Nat) (hQ : Cq w H0 P c g) : pb_M w l yX12_toRegion cX12_toRegion 5 (some (.object "PolygonBoard$Region")) 8 (2 + 24 * 5 + rpC 24 0) (4 + 24 * 122 + rpS 24 0) [.ref (c)] H0 (pb_qr (fun r H1 => Rb w H1 H0.size r (toF g 24) ∧ pb_F (fun q => q < H0.size) H0 H1)) := by
  refine pb_of (by decide +kernel) (Nat.le_of_ble_eq_true rfl) ?_
  intro p_ e_ s_ m_ ar_ bl_ me_ co_ ls C hh hG hl
  have hl : lv_has ls 5 [(0, .ref (c))] := hl
  have hzs := hG.1
  have hFF : pb_F (fun q => q < H0.size) H0 H0 := pb_F.rf
  have hQ : Cq w H0 (fun q => q < H0.size) c g := hQ.mono (fun q h _ => h)
  have hm2 : rpC 24 (toF g 0).length = rpC 24 0 ∧ rpS 24 (toF g 0).length = rpS 24 0 := ⟨rfl, rfl⟩
  have L10 : ∀ (n_ : Nat) (n q : Nat) (H : Heap), 24 - n = n_ → (pb_G w s_ H) → (n ≤ 24) → (Rb w H H0.size q (toF g n)) → (pb_F (fun q => q < H0.size) H0 H) → ∀ (ls : Array Slot), lv_has ls 5 [(0, .ref (c)), (1, .ref (q)), (2, .int (iZ (((n : Nat) : Int))))] → pb_V w.2.2.2 p_ l e_ (pb_rm 8 (2 + 24 * 5 + rpC 24 0) (4 + 24 * 122 + rpS 24 0)) s_ m_ ar_ bl_ me_ co_ H ((24 - n) * 5 + rpC 24 (toF g n).length) ((24 - n) * 122 + rpS 24 (toF g n).length) (pb_E w bl_ ar_ s_ (2 + 24 * 5 + rpC 24 0) (4 + 24 * 122 + rpS 24 0) (pb_qr (fun r H1 => Rb w H1 H0.size r (toF g 24) ∧ pb_F (fun q => q < H0.size) H0 H1))) (F0 m_ 10 ls []) := by
    intro n_
    induction n_ using Nat.strongRecOn with
    | _ n_ ih10 =>
    intro n q H hm_ hG hn hRb hFF ls hl
    have hgl := toF_len g n
    have hp8 : potc 8 = 3 ∧ pot 8 = 112 := ⟨rfl, rfl⟩
    obtain ⟨HB, hHB⟩ : ∃ HB : Heap, HB = H := ⟨_, rfl⟩
    have hFI : pb_F (fun q => q < HB.size) HB H := by rw [hHB]; exact pb_F.rf
    have hzB : H0.size ≤ HB.size := by rw [hHB]; exact hFF.1
    have hRbB : Rb w HB H0.size q ((toF g n)) := by rw [hHB]; exact hRb
    have L27 : ∀ (n_ : Nat) (x m s : Nat) (H : Heap), 24 - x = n_ → (pb_G w s_ H) → (n < 24) → (x ≤ 24) → (Sb w H HB.size s (toE g n x) m) → (pb_F (fun q => q < H0.size) H0 H) → (pb_F (fun q => q < HB.size) HB H) → ∀ (ls : Array Slot), lv_has ls 5 [(0, .ref (c)), (1, .ref (q)), (2, .int (iZ (((n : Nat) : Int)))), (3, .ref (s)), (4, .int (iZ (((x : Nat) : Int))))] → pb_V w.2.2.2 p_ l e_ (pb_rm 8 (2 + 24 * 5 + rpC 24 0) (4 + 24 * 122 + rpS 24 0)) s_ m_ ar_ bl_ me_ co_ H (potc m + (24 - n - 1) * 5 + rpC 24 (toF g n).length) (pot m + (24 - n - 1) * 122 + rpS 24 (toF g n).length) (pb_E w bl_ ar_ s_ (2 + 24 * 5 + rpC 24 0) (4 + 24 * 122 + rpS 24 0) (pb_qr (fun r H1 => Rb w H1 H0.size r (toF g 24) ∧ pb_F (fun q => q < H0.size) H0 H1))) (F0 m_ 27 ls []) := by
      intro n_
      induction n_ using Nat.strongRecOn with
      | _ n_ ih27 =>
      intro x m s H hm_ hG hn1 hx hSb hFF hFI ls hl
      have hQ := hQ.kept hFF
      have htl := toE_len g n x
      obtain ⟨fsq_, hQo⟩ := hQ.o
      refine pb_iload C dX12_toRegion_27 (lv_at hl 4 rfl) ?_
      refine pb_bip C dX12_toRegion_29 (by decide) ?_
      refine pb_icmp_ge C dX12_toRegion_31 (x := ((x : Nat) : Int)) (y := 24) (tgt := 65) (by decide) (by omega) (by omega) (fun c31_ => ?_) (fun c31_ => ?_)
      · have hx9 : x = 24 := by omega
        rw [hx9] at hSb
        have hpot := radd_pot (L := (toF g n)) (lo := ((n : Nat) : Int)) (hi := ((n + 1 : Nat) : Int)) (E := (toE g n 24)) (N := 24) (Nat.le_trans (radd_n hgl) (by omega))
        rw [show radd (toF g n) ((n : Nat) : Int) ((n + 1 : Nat) : Int) (toE g n 24) = toF g (n + 1) from rfl] at hpot
        have hRb := hRbB.kept (hFI.mono (fun q h _ => h))
        obtain ⟨fsR_, hRbo⟩ := hRb.o
        refine pb_aload_n C dX12_toRegion_65 rfl (lv_at hl 1 rfl) ?_
        refine pb_iload_n C dX12_toRegion_66 rfl (lv_at hl 2 rfl) ?_
        refine pb_iload_n C dX12_toRegion_67 rfl (lv_at hl 2 rfl) ?_
        refine pb_ic C dX12_toRegion_68 ?_
        refine pb_iadd C dX12_toRegion_69 ?_
        refine pb_aload_n C dX12_toRegion_70 rfl (lv_at hl 3 rfl) ?_
        refine pb_go_v (bc' := potc m + (24 - n - 1) * 5 + rpC 24 (toF g n).length - ((radc ((toF g n)) (((n : Nat) : Int)) (((n + 1 : Nat) : Int)) ((toE g n 24))))) (bs' := pot m + (24 - n - 1) * 122 + rpS 24 (toF g n).length - ((rads ((toF g n)) (((n : Nat) : Int)) (((n + 1 : Nat) : Int)) ((toE g n 24))))) (pb_runV (rest := []) C hG (met_X2_add l H0.size q _ ((toF g n)) ((toE g n 24)) (((n : Nat) : Int)) (((n + 1 : Nat) : Int)) (by omega) hRb (hSb.hi hzB) (by omega) (by omega) (by omega)) hRbo (ci := 1) rfl (lw_V q1041 q424 q425 q55 q426) ⟨rfl, hdX2_add⟩ rfl hl.1 rfl (Nat.le_of_ble_eq_true rfl) ⟨(Nat.le_of_ble_eq_true rfl), (Nat.le_of_ble_eq_true rfl)⟩ dX12_toRegion_71) (by omega) (by omega) (fun H_ hp_ => ?_)
        obtain ⟨hRb, hFA⟩ := hp_
        have hG := hG.kept (hFA.mono (fun q _ (hq : q < w.2.2.2) => Or.inl (by omega)))
        have hFF := hFF.tr (hFA.mono (fun q _ hq => Or.inl hq))
        refine pb_iinc C dX12_toRegion_74 hl (j := 2) (x := (((n : Nat) : Int))) rfl (by decide) rfl fun ls hl => ?_
        have hl : lv_has ls 5 [(2, .int (iZ ((((n + 1) : Nat) : Int)))), (0, .ref (c)), (1, .ref (q)), (3, .ref (s)), (4, .int (iZ (((x : Nat) : Int))))] := hl
        refine pb_goto C dX12_toRegion_77 (tgt := 10) (by decide) ?_
        exact pb_V.mono (by omega) (by omega) (ih10 _ (by omega) (n + 1) q H_ rfl hG (by omega) hRb hFF ls (lv_sub hl [1, 2, 0] rfl))
      · refine pb_aload_n C dX12_toRegion_34 rfl (lv_at hl 3 rfl) ?_
        refine pb_iload C dX12_toRegion_35 (lv_at hl 4 rfl) ?_
        refine pb_aload_n C dX12_toRegion_37 rfl (lv_at hl 0 rfl) ?_
        refine pb_iload C dX12_toRegion_38 (lv_at hl 4 rfl) ?_
        refine pb_iload_n C dX12_toRegion_40 rfl (lv_at hl 2 rfl) ?_
        refine pb_go_x (bc' := potc m + (24 - n - 1) * 5 + rpC 24 (toF g n).length) (bs' := pot m + (24 - n - 1) * 122 + rpS 24 (toF g n).length) (pb_runV (rest := [.int (iZ (((x : Nat) : Int))), .ref (s)]) C hG (met_X12_contains l c _ g hQ ((x : Nat) : Int) ((n : Nat) : Int) (by omega) (by omega)) hQo (ci := 11) rfl (lw_V q1033 q1034 q1035 q82 q1036) ⟨rfl, hdX12_contains⟩ rfl hl.1 rfl (Nat.le_of_ble_eq_true rfl) ⟨(Nat.le_of_ble_eq_true rfl), (Nat.le_of_ble_eq_true rfl)⟩ dX12_toRegion_41) (by omega) (by omega) ?_
        refine pb_ifB_eq C dX12_toRegion_44 (tgt := 54) (by decide) (fun c44_ => ?_) (fun c44_ => ?_)
        · refine pb_iload C dX12_toRegion_54 (lv_at hl 4 rfl) ?_
          have hL1 : (spadd (toE g n x) ((x : Nat) : Int) ((x : Nat) : Int)).length ≤ 64 := Nat.le_trans (spadd_le _ _ _) (by omega)
          have hpot := sp_pot (E := (toE g n x)) (l := ((x : Nat) : Int)) (r := ((x : Nat) : Int)) hSb.m8 hL1
          obtain ⟨fs_, hR_⟩ := hSb.o
          have hz9 := hFF.1
          refine pb_go_v (bc' := potc m + (24 - n - 1) * 5 + rpC 24 (toF g n).length - ((spc ((toE g n x)) (((x : Nat) : Int)) (((x : Nat) : Int)) m))) (bs' := pot m + (24 - n - 1) * 122 + rpS 24 (toF g n).length - ((sps ((toE g n x)) (((x : Nat) : Int)) (((x : Nat) : Int)) m))) (pb_runV (rest := []) C hG (met_X4_add l HB.size s m ((toE g n x)) (by omega) hSb (((x : Nat) : Int)) (((x : Nat) : Int)) (by omega) (by omega) hL1) hR_ (ci := 3) rfl (lw_V q1040 q419 q420 q70 q421) ⟨rfl, hdX4_add⟩ rfl hl.1 rfl (Nat.le_of_ble_eq_true rfl) ⟨(Nat.le_of_ble_eq_true rfl), (Nat.le_of_ble_eq_true rfl)⟩ dX12_toRegion_56) (by omega) (by omega) (fun H_ hp_ => ?_)
          obtain ⟨hSb, hF1⟩ := hp_
          have hG := hG.kept (hF1.mono (fun q _ (hq : q < w.2.2.2) => show q < _ from by omega))
          have hFF := hFF.tr (hF1.mono (fun q _ (hq : q < H0.size) => show q < _ from by omega))
          have hFI := hFI.tr hF1
          refine pb_iinc C dX12_toRegion_59 hl (j := 4) (x := (((x : Nat) : Int))) rfl (by decide) rfl fun ls hl => ?_
          have hl : lv_has ls 5 [(4, .int (iZ ((((x + 1) : Nat) : Int)))), (0, .ref (c)), (1, .ref (q)), (2, .int (iZ (((n : Nat) : Int)))), (3, .ref (s))] := hl
          refine pb_goto C dX12_toRegion_62 (tgt := 27) (by decide) ?_
          exact pb_V.mono (by omega) (by omega) (ih27 _ (by omega) (x + 1) (spm (toE g n x) ((x : Nat) : Int) ((x : Nat) : Int) m) s H_ rfl hG (by omega) (by omega) (by rw [toE, if_neg (by rw [c44_]; exact Bool.false_ne_true)]; exact hSb) hFF hFI ls (lv_sub hl [1, 2, 3, 4, 0] rfl))
        · refine pb_iload C dX12_toRegion_47 (lv_at hl 4 rfl) ?_
          refine pb_ic C dX12_toRegion_49 ?_
          refine pb_iadd C dX12_toRegion_50 ?_
          refine pb_goto C dX12_toRegion_51 (tgt := 56) (by decide) ?_
          have hL1 : (spadd (toE g n x) ((x : Nat) : Int) ((x + 1 : Nat) : Int)).length ≤ 64 := Nat.le_trans (spadd_le _ _ _) (by omega)
          have hpot := sp_pot (E := (toE g n x)) (l := ((x : Nat) : Int)) (r := ((x + 1 : Nat) : Int)) hSb.m8 hL1
          obtain ⟨fs_, hR_⟩ := hSb.o
          have hz9 := hFF.1
          refine pb_go_v (bc' := potc m + (24 - n - 1) * 5 + rpC 24 (toF g n).length - ((spc ((toE g n x)) (((x : Nat) : Int)) (((x + 1 : Nat) : Int)) m))) (bs' := pot m + (24 - n - 1) * 122 + rpS 24 (toF g n).length - ((sps ((toE g n x)) (((x : Nat) : Int)) (((x + 1 : Nat) : Int)) m))) (pb_runV (rest := []) C hG (met_X4_add l HB.size s m ((toE g n x)) (by omega) hSb (((x : Nat) : Int)) (((x + 1 : Nat) : Int)) (by omega) (by omega) hL1) hR_ (ci := 3) rfl (lw_V q1040 q419 q420 q70 q421) ⟨rfl, hdX4_add⟩ rfl hl.1 rfl (Nat.le_of_ble_eq_true rfl) ⟨(Nat.le_of_ble_eq_true rfl), (Nat.le_of_ble_eq_true rfl)⟩ dX12_toRegion_56) (by omega) (by omega) (fun H_ hp_ => ?_)
          obtain ⟨hSb, hF1⟩ := hp_
          have hG := hG.kept (hF1.mono (fun q _ (hq : q < w.2.2.2) => show q < _ from by omega))
          have hFF := hFF.tr (hF1.mono (fun q _ (hq : q < H0.size) => show q < _ from by omega))
          have hFI := hFI.tr hF1
          refine pb_iinc C dX12_toRegion_59 hl (j := 4) (x := (((x : Nat) : Int))) rfl (by decide) rfl fun ls hl => ?_
          have hl : lv_has ls 5 [(4, .int (iZ ((((x + 1) : Nat) : Int)))), (0, .ref (c)), (1, .ref (q)), (2, .int (iZ (((n : Nat) : Int)))), (3, .ref (s))] := hl
          refine pb_goto C dX12_toRegion_62 (tgt := 27) (by decide) ?_
          exact pb_V.mono (by omega) (by omega) (ih27 _ (by omega) (x + 1) (spm (toE g n x) ((x : Nat) : Int) ((x + 1 : Nat) : Int) m) s H_ rfl hG (by omega) (by omega) (by rw [toE, if_pos c44_]; exact hSb) hFF hFI ls (lv_sub hl [1, 2, 3, 4, 0] rfl))
    refine pb_iload_n C dX12_toRegion_10 rfl (lv_at hl 2 rfl) ?_
    refine pb_bip C dX12_toRegion_11 (by decide) ?_
    refine pb_icmp_ge C dX12_toRegion_13 (x := ((n : Nat) : Int)) (y := 24) (tgt := 80) (by decide) (by omega) (by omega) (fun c13_ => ?_) (fun c13_ => ?_)
    · refine pb_aload_n C dX12_toRegion_80 rfl (lv_at hl 1 rfl) ?_
      exact pb_aret C (Or.inl ⟨_, rfl⟩) dX12_toRegion_81 (Or.inr ⟨_, rfl⟩) (⟨_, rfl, by rw [show 24 = n from by omega]; exact hRb, hFF⟩)
    · have hz6 := hFI.1
      refine pb_newE C in_X4 tyX4 tyX4_ok (ci := 3) rfl q1031 q405 q70 (fs := [.null, .int (iZ (0))]) (by decide) (bc' := (24 - n) * 5 + rpC 24 (toF g n).length - 1) (bs' := (24 - n) * 122 + rpS 24 (toF g n).length - 2) (by omega) (by omega) dX12_toRegion_16 fun a1_ H1_ ha_ hn_ hN1_ => ?_
      have hs1_ : H1_.size = H.size + 1 := hn_.1
      have hG := hG.kept (hn_.f.mono (fun _ _ _ => trivial))
      have hz7 := hFF.1
      have hFF := hFF.tr (hn_.f.mono (fun _ _ _ => trivial))
      have hFI := hFI.tr (hn_.f.mono (fun _ _ _ => trivial))
      have a1__e : a1_ = H.size := ha_
      refine pb_dup C dX12_toRegion_19 rfl ?_
      have hz9 := hFF.1
      have hz8 := hFI.1
      refine pb_go_v (bc' := (24 - n) * 5 + rpC 24 (toF g n).length - 1 - 1) (bs' := (24 - n) * 122 + rpS 24 (toF g n).length - 2 - 8) (pb_runIN (rest := [.ref (a1_)]) C hG (met_X4_init l HB.size a1_ (by omega) (by omega) hN1_) q1032 q407 q70 q408 rfl hdX4_init rfl hl.1 rfl (Nat.le_of_ble_eq_true rfl) ⟨(Nat.le_of_ble_eq_true rfl), (Nat.le_of_ble_eq_true rfl)⟩ dX12_toRegion_20) (by omega) (by omega) (fun H_ hp_ => ?_)
      obtain ⟨hSb, hF1⟩ := hp_
      have hG := hG.kept (hF1.mono (fun q _ (hq : q < w.2.2.2) => show q ≠ _ from by omega))
      have hFF := hFF.tr (hF1.mono (fun q _ (hq : q < H0.size) => show q ≠ _ from by omega))
      have hFI := hFI.tr (hF1.mono (fun q _ (hq : q < HB.size) => show q ≠ _ from by omega))
      refine pb_astore_n C dX12_toRegion_23 rfl hl (by decide) rfl fun ls hl => ?_
      have hl : lv_has ls 5 [(3, .ref (a1_)), (0, .ref (c)), (1, .ref (q)), (2, .int (iZ (((n : Nat) : Int))))] := hl
      refine pb_ic C dX12_toRegion_24 ?_
      refine pb_istore C dX12_toRegion_25 hl (by decide) rfl fun ls hl => ?_
      have hl : lv_has ls 5 [(4, .int (iZ (0))), (3, .ref (a1_)), (0, .ref (c)), (1, .ref (q)), (2, .int (iZ (((n : Nat) : Int))))] := hl
      exact pb_V.mono (by omega) (by omega) (L27 _ 0 8 a1_ H_ rfl hG (by omega) (by omega) hSb hFF hFI ls (lv_sub hl [2, 3, 4, 1, 0] rfl))
  refine pb_newE C in_X2 tyX2 tyX2_ok (ci := 1) rfl q1029 q131 q55 (fs := [.null]) (by decide) (bc' := 2 + 24 * 5 + rpC 24 0 - 1) (bs' := 4 + 24 * 122 + rpS 24 0 - 1) (by omega) (by omega) dX12_toRegion_0 fun a2_ H2_ ha_ hn_ hN2_ => ?_
  have hs2_ : H2_.size = H0.size + 1 := hn_.1
  have hG := hG.kept (hn_.f.mono (fun _ _ _ => trivial))
  have hz7 := hFF.1
  have hFF := hFF.tr (hn_.f.mono (fun _ _ _ => trivial))
  obtain rfl : a2_ = H0.size := by omega
  skip
  have hN := hN2_
  refine pb_dup C dX12_toRegion_3 rfl ?_
  have hz9 := hFF.1
  refine pb_go_v (bc' := 2 + 24 * 5 + rpC 24 0 - 1 - 1) (bs' := 4 + 24 * 122 + rpS 24 0 - 1 - 3) (pb_runIN (rest := [.ref (H0.size)]) C hG (met_X2_init l H0.size H0.size (by omega) (by omega) hN) q1030 q133 q55 q134 rfl hdX2_init rfl hl.1 rfl (Nat.le_of_ble_eq_true rfl) ⟨(Nat.le_of_ble_eq_true rfl), (Nat.le_of_ble_eq_true rfl)⟩ dX12_toRegion_4) (by omega) (by omega) (fun H_ hp_ => ?_)
  obtain ⟨hRb, hF1⟩ := hp_
  have hG := hG.kept (hF1.mono (fun q _ (hq : q < w.2.2.2) => Or.inl (by omega)))
  have hFF := hFF.tr (hF1.mono (fun q _ hq => Or.inl hq))
  refine pb_astore_n C dX12_toRegion_7 rfl hl (by decide) rfl fun ls hl => ?_
  have hl : lv_has ls 5 [(1, .ref (H0.size)), (0, .ref (c))] := hl
  refine pb_ic C dX12_toRegion_8 ?_
  refine pb_istore_n C dX12_toRegion_9 rfl hl (by decide) rfl fun ls hl => ?_
  have hl : lv_has ls 5 [(2, .int (iZ (0))), (1, .ref (H0.size)), (0, .ref (c))] := hl
  exact pb_V.mono (by omega) (by omega) (L10 _ 0 H0.size H_ rfl hG (by omega) hRb hFF ls (lv_sub hl [2, 1, 0] rfl))

set_option maxHeartbeats 1000000 in
theorem met_X12_moment {w : pb_W} (l : Launch) {H : Heap} (c : Nat) (P : Nat → Prop) (g : Nat → Nat) (hQ : Cq w H P c g) : pb_M w l yX12_moment cX12_moment 5 (some .long) 3 (0) (0) [.ref (c)] H (pb_qx (.long (lZ (moG g 24))) H) := by
  refine pb_of (by decide +kernel) (Nat.le_of_ble_eq_true rfl) ?_
  intro p_ e_ s_ m_ ar_ bl_ me_ co_ ls C hh hG hl
  have hl : lv_has ls 5 [(0, .ref (c))] := hl
  obtain ⟨fsq_, hQo⟩ := hQ.o
  have L4 : ∀ (n_ : Nat) (n : Nat) (t9 : Int), 24 - n = n_ → (n ≤ 24) → (t9 = moG g n) → ∀ (ls : Array Slot), lv_has ls 5 [(0, .ref (c)), (1, .long (lZ (t9))), (3, .int (iZ (((n : Nat) : Int))))] → pb_V w.2.2.2 p_ l e_ (pb_rm 3 (0) (0)) s_ m_ ar_ bl_ me_ co_ H (0) (0) (pb_E w bl_ ar_ s_ (0) (0) (pb_qx (.long (lZ (moG g 24))) H)) (F0 m_ 4 ls []) := by
    intro n_
    induction n_ using Nat.strongRecOn with
    | _ n_ ih4 =>
    intro n t9 hm_ hn ht ls hl
    have L13 : ∀ (n_ : Nat) (x : Nat) (t8 : Int), 24 - x = n_ → (x ≤ 24) → (n < 24) → (t8 = t9 + moR g n x) → ∀ (ls : Array Slot), lv_has ls 5 [(0, .ref (c)), (1, .long (lZ (t8))), (3, .int (iZ (((n : Nat) : Int)))), (4, .int (iZ (((x : Nat) : Int))))] → pb_V w.2.2.2 p_ l e_ (pb_rm 3 (0) (0)) s_ m_ ar_ bl_ me_ co_ H (0) (0) (pb_E w bl_ ar_ s_ (0) (0) (pb_qx (.long (lZ (moG g 24))) H)) (F0 m_ 13 ls []) := by
      intro n_
      induction n_ using Nat.strongRecOn with
      | _ n_ ih13 =>
      intro x t8 hm_ hx hn1 ht8 ls hl
      refine pb_iload C dX12_moment_13 (lv_at hl 3 rfl) ?_
      refine pb_bip C dX12_moment_15 (by decide) ?_
      refine pb_icmp_ge C dX12_moment_17 (x := ((x : Nat) : Int)) (y := 24) (tgt := 53) (by decide) (by omega) (by omega) (fun c17_ => ?_) (fun c17_ => ?_)
      · refine pb_iinc C dX12_moment_53 hl (j := 2) (x := (((n : Nat) : Int))) rfl (by decide) rfl fun ls hl => ?_
        have hl : lv_has ls 5 [(3, .int (iZ ((((n + 1) : Nat) : Int)))), (0, .ref (c)), (1, .long (lZ (t8))), (4, .int (iZ (((x : Nat) : Int))))] := hl
        refine pb_goto C dX12_moment_56 (tgt := 4) (by decide) ?_
        exact pb_V.mono (by omega) (by omega) (ih4 _ (by omega) (n + 1) t8 rfl (by omega) (by rw [moG, ← ht, ht8, show x = 24 from by omega]) ls (lv_sub hl [1, 2, 0] rfl))
      · refine pb_lload_n C dX12_moment_20 rfl (lv_at hl 1 rfl) ?_
        refine pb_aload_n C dX12_moment_21 rfl (lv_at hl 0 rfl) ?_
        refine pb_iload C dX12_moment_22 (lv_at hl 3 rfl) ?_
        refine pb_iload_n C dX12_moment_24 rfl (lv_at hl 2 rfl) ?_
        refine pb_go_x (bc' := 0) (bs' := 0) (pb_runV (rest := [.long (lZ (t8))]) C hG (met_X12_contains l c P g hQ ((x : Nat) : Int) ((n : Nat) : Int) (by omega) (by omega)) hQo (ci := 11) rfl (lw_V q1033 q1034 q1035 q82 q1036) ⟨rfl, hdX12_contains⟩ rfl hl.1 rfl (Nat.le_of_ble_eq_true rfl) ⟨(Nat.le_of_ble_eq_true rfl), (Nat.le_of_ble_eq_true rfl)⟩ dX12_moment_25) (by omega) (by omega) ?_
        refine pb_ifB_eq C dX12_moment_28 (tgt := 44) (by decide) (fun c28_ => ?_) (fun c28_ => ?_)
        · refine pb_lc C dX12_moment_44 (0) (by decide +kernel) ?_
          refine pb_ladd C dX12_moment_45 ?_
          refine pb_lstore_n C dX12_moment_46 rfl hl (by decide) rfl fun ls hl => ?_
          have hl : lv_has ls 5 [(1, .long (lZ ((t8 + 0)))), (0, .ref (c)), (3, .int (iZ (((n : Nat) : Int)))), (4, .int (iZ (((x : Nat) : Int))))] := hl
          refine pb_iinc C dX12_moment_47 hl (j := 3) (x := (((x : Nat) : Int))) rfl (by decide) rfl fun ls hl => ?_
          have hl : lv_has ls 5 [(4, .int (iZ ((((x + 1) : Nat) : Int)))), (1, .long (lZ ((t8 + 0)))), (0, .ref (c)), (3, .int (iZ (((n : Nat) : Int))))] := hl
          refine pb_goto C dX12_moment_50 (tgt := 13) (by decide) ?_
          exact pb_V.mono (by omega) (by omega) (ih13 _ (by omega) (x + 1) (t8 + 0) rfl (by omega) (by omega) (by rw [moR, if_neg (by rw [c28_]; exact Bool.false_ne_true), ← Int.add_assoc, ← ht8]) ls (lv_sub hl [2, 1, 3, 0] rfl))
        · refine pb_iload C dX12_moment_31 (lv_at hl 3 rfl) ?_
          refine pb_iload C dX12_moment_33 (lv_at hl 3 rfl) ?_
          refine pb_imul C dX12_moment_35 ?_
          refine pb_iload_n C dX12_moment_36 rfl (lv_at hl 2 rfl) ?_
          refine pb_iload_n C dX12_moment_37 rfl (lv_at hl 2 rfl) ?_
          refine pb_imul C dX12_moment_38 ?_
          refine pb_iadd C dX12_moment_39 ?_
          refine pb_i2l C dX12_moment_40 (x := ((((x * x) + (n * n)) : Nat) : Int)) (by have h1 : x * x ≤ 23 * 23 := Nat.mul_le_mul (by omega) (by omega); have h2 : n * n ≤ 23 * 23 := Nat.mul_le_mul (by omega) (by omega); omega) ?_
          refine pb_goto C dX12_moment_41 (tgt := 45) (by decide) ?_
          refine pb_ladd C dX12_moment_45 ?_
          refine pb_lstore_n C dX12_moment_46 rfl hl (by decide) rfl fun ls hl => ?_
          have hl : lv_has ls 5 [(1, .long (lZ ((t8 + ((((x * x) + (n * n)) : Nat) : Int))))), (0, .ref (c)), (3, .int (iZ (((n : Nat) : Int)))), (4, .int (iZ (((x : Nat) : Int))))] := hl
          refine pb_iinc C dX12_moment_47 hl (j := 3) (x := (((x : Nat) : Int))) rfl (by decide) rfl fun ls hl => ?_
          have hl : lv_has ls 5 [(4, .int (iZ ((((x + 1) : Nat) : Int)))), (1, .long (lZ ((t8 + ((((x * x) + (n * n)) : Nat) : Int))))), (0, .ref (c)), (3, .int (iZ (((n : Nat) : Int))))] := hl
          refine pb_goto C dX12_moment_50 (tgt := 13) (by decide) ?_
          exact pb_V.mono (by omega) (by omega) (ih13 _ (by omega) (x + 1) (t8 + ((((x * x) + (n * n)) : Nat) : Int)) rfl (by omega) (by omega) (by rw [moR, if_pos c28_, ← Int.add_assoc, ← ht8]) ls (lv_sub hl [2, 1, 3, 0] rfl))
    refine pb_iload_n C dX12_moment_4 rfl (lv_at hl 2 rfl) ?_
    refine pb_bip C dX12_moment_5 (by decide) ?_
    refine pb_icmp_ge C dX12_moment_7 (x := ((n : Nat) : Int)) (y := 24) (tgt := 59) (by decide) (by omega) (by omega) (fun c7_ => ?_) (fun c7_ => ?_)
    · refine pb_lload_n C dX12_moment_59 rfl (lv_at hl 1 rfl) ?_
      exact pb_lret C dX12_moment_60 (⟨by rw [ht, show n = 24 from by omega], rfl⟩)
    · refine pb_ic C dX12_moment_10 ?_
      refine pb_istore C dX12_moment_11 hl (by decide) rfl fun ls hl => ?_
      have hl : lv_has ls 5 [(4, .int (iZ (0))), (0, .ref (c)), (1, .long (lZ (t9))), (3, .int (iZ (((n : Nat) : Int))))] := hl
      exact pb_V.mono (by omega) (by omega) (L13 _ 0 t9 rfl (by omega) (by omega) (by rw [moR]; omega) ls (lv_sub hl [1, 2, 3, 0] rfl))
  refine pb_lc C dX12_moment_0 (0) (by decide +kernel) ?_
  refine pb_lstore_n C dX12_moment_1 rfl hl (by decide) rfl fun ls hl => ?_
  have hl : lv_has ls 5 [(1, .long (lZ (0))), (0, .ref (c))] := hl
  refine pb_ic C dX12_moment_2 ?_
  refine pb_istore_n C dX12_moment_3 rfl hl (by decide) rfl fun ls hl => ?_
  have hl : lv_has ls 5 [(3, .int (iZ (0))), (1, .long (lZ (0))), (0, .ref (c))] := hl
  exact pb_V.mono (by omega) (by omega) (L4 _ 0 0 rfl (by omega) rfl ls (lv_sub hl [2, 1, 0] rfl))

