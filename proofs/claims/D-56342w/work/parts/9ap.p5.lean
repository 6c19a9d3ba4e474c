set_option maxRecDepth 100000
set_option maxHeartbeats 2000000 in
theorem met_X1_stepsFrom {w : pb_W} (l : Launch) {H0 : Heap} (c9 a : Nat) (P : Nat → Prop) (g : Nat → Nat) (hQ00_ : Cq w H0 P c9 g) (ha : a < 576) : pb_M w l yX1_stepsFrom cX1_stepsFrom 8 (some (.array (.int))) 5 (587) (3578) [.ref (c9), .int (iZ (((a : Nat) : Int)))] H0 (pb_qr (fun s H1 => ∃ A F n, pb_A w H1 s 0 576 (pb_zf A) ∧ (∀ k, k < 576 → A k = F k) ∧ (bqN g a n).2 = [] ∧ (bqN g a n).1 = F ∧ (∀ k, F k ≤ 2400) ∧ pb_F (fun q => q < H0.size) H0 H1)) := by
  refine pb_of (by decide +kernel) (Nat.le_of_ble_eq_true rfl) ?_
  intro p_ e_ s_ m_ ar_ bl_ me_ co_ ls C hh hG hl
  have hl : lv_has ls 8 [(0, .ref (c9)), (1, .int (iZ (((a : Nat) : Int))))] := hl
  have hzs := hG.1
  have hQ0 : Cq w H0 (fun q => q < H0.size) c9 g := hQ00_.mono (fun q h9 _ => h9)
  have hFF : pb_F (fun q => q < H0.size) H0 H0 := pb_F.rf
  have L45 : ∀ (n_ : Nat) (n z1 e m h : Nat) (R Q : List Nat) (A F : Nat → Int) (H : Heap), 576 - n = n_ → (pb_G w s_ H) → (bqN g a n = (F, Q)) → (bqK F Q n 0 n) → (∀ k, k < 576 → A k = F k) → (pb_A w H H0.size 0 576 (pb_zf A)) → (Dq w H z1 z1 e m h R) → (Bxl w H R Q) → (H0.size < z1) → (pb_F (fun q => q < H0.size) H0 H) → ∀ (ls : Array Slot), lv_has ls 8 [(0, .ref (c9)), (2, .ref (H0.size)), (3, .ref (z1))] → pb_V w.2.2.2 p_ l e_ (pb_rm 5 (587) (3578)) s_ m_ ar_ bl_ me_ co_ H (nnF F 576 + dqC m) (nnF F 576 + dqS m) (pb_E w bl_ ar_ s_ (587) (3578) (pb_qr (fun s H1 => ∃ A F n, pb_A w H1 s 0 576 (pb_zf A) ∧ (∀ k, k < 576 → A k = F k) ∧ (bqN g a n).2 = [] ∧ (bqN g a n).1 = F ∧ (∀ k, F k ≤ 2400) ∧ pb_F (fun q => q < H0.size) H0 H1))) (F0 m_ 45 ls []) := by
    intro n_
    induction n_ using Nat.strongRecOn with
    | _ n_ ih45 =>
    intro n z1 e m h R Q A F H hm_ hG hk hK hAe hA hD hB hz1 hFF ls hl
    have hQ := hQ0.kept hFF
    obtain ⟨fsq_, hQo⟩ := hQ.o
    obtain ⟨fsD_, hDo⟩ := hD.o
    have hBl := hB.len
    have hKl := hK.2.2
    have hzs2 := hG.1
    have L67 : ∀ (n_ : Nat) (c : Nat) (Fo : Nat → Int) (Q0 : List Nat) (d e m h : Nat) (R Q : List Nat) (A F : Nat → Int) (H : Heap), 4 - d = n_ → (pb_G w s_ H) → (d ≤ 4) → (bqN g a n = (Fo, c :: Q0)) → (bq4 g c (Fo, Q0) d = (F, Q)) → (c < 576) → (0 ≤ F c) → (bqK F Q n d (n + 1)) → (∀ k, k < 576 → A k = F k) → (pb_A w H H0.size 0 576 (pb_zf A)) → (Dq w H z1 z1 e m h R) → (Bxl w H R Q) → (pb_F (fun q => q < H0.size) H0 H) → ∀ (ls : Array Slot), lv_has ls 8 [(0, .ref (c9)), (2, .ref (H0.size)), (3, .ref (z1)), (4, .int (iZ (((c : Nat) : Int)))), (5, .int (iZ (((d : Nat) : Int))))] → pb_V w.2.2.2 p_ l e_ (pb_rm 5 (587) (3578)) s_ m_ ar_ bl_ me_ co_ H (nnF F 576 + dqC m) (nnF F 576 + dqS m) (pb_E w bl_ ar_ s_ (587) (3578) (pb_qr (fun s H1 => ∃ A F n, pb_A w H1 s 0 576 (pb_zf A) ∧ (∀ k, k < 576 → A k = F k) ∧ (bqN g a n).2 = [] ∧ (bqN g a n).1 = F ∧ (∀ k, F k ≤ 2400) ∧ pb_F (fun q => q < H0.size) H0 H1))) (F0 m_ 67 ls []) := by
      intro n_
      induction n_ using Nat.strongRecOn with
      | _ n_ ih67 =>
      intro c Fo Q0 d e m h R Q A F H hm_ hG hd hk0 hs hc hFc hK hAe hA hD hB hFF ls hl
      have hQ := hQ0.kept hFF
      obtain ⟨fsq_, hQo⟩ := hQ.o
      obtain ⟨fsD_, hDo⟩ := hD.o
      have hBl := hB.len
      have hKl := hK.2.2
      have hzs2 := hG.1
      refine pb_iload C dX1_stepsFrom_67 (lv_at hl 4 rfl) ?_
      refine pb_ic C dX1_stepsFrom_69 ?_
      refine pb_icmp_ge C dX1_stepsFrom_70 (x := ((d : Nat) : Int)) (y := 4) (tgt := 161) (by decide) (by omega) (by omega) (fun c70_ => ?_) (fun c70_ => ?_)
      · refine pb_goto C dX1_stepsFrom_161 (tgt := 45) (by decide) ?_
        exact pb_V.mono (by omega) (by omega) (ih45 _ (by omega) (n + 1) z1 e m h R Q A F H rfl hG (by rw [bqN, hk0]; show bq4 g c (Fo, Q0) 4 = _; rw [← hs, show d = 4 from by omega]) (bqK_end hK (by omega)) hAe hA hD hB (by omega) hFF ls (lv_sub hl [0, 1, 2] rfl))
      · have hsx := stX_rg d
        have hsy := stY_rg d
        refine pb_iload C dX1_stepsFrom_73 (lv_at hl 3 rfl) ?_
        refine pb_bip C dX1_stepsFrom_75 (by decide) ?_
        refine pb_irem C dX1_stepsFrom_77 (x := ((c : Nat) : Int)) (y := 24) (by omega) (by omega) (by omega) ?_
        refine pb_iload C dX1_stepsFrom_78 (lv_at hl 4 rfl) ?_
        refine pb_go_x (bc' := nnF F 576 + dqC m) (bs' := nnF F 576 + dqS m) (pb_runSN (rest := [.int (iZ ((((c % 24) : Nat) : Int)))]) C hG (met_X14_stepX l d (by omega)) q1570 q1297 q86 q1298 hdX14_stepX rfl hl.1 rfl (Nat.le_of_ble_eq_true rfl) ⟨(Nat.le_of_ble_eq_true rfl), (Nat.le_of_ble_eq_true rfl)⟩ dX1_stepsFrom_80) (by omega) (by omega) ?_
        refine pb_iadd C dX1_stepsFrom_83 ?_
        obtain ⟨x9, hx9⟩ : ∃ z_ : Int, z_ = ((((c % 24) : Nat) : Int) + (stX d)) := ⟨_, rfl⟩
        refine pb_eq (g2 := F0 m_ 84 ls [.int (iZ (x9))]) (by rw [hx9]) ?_
        refine pb_istore C dX1_stepsFrom_84 hl (by decide) rfl fun ls hl => ?_
        have hl : lv_has ls 8 [(6, .int (iZ (x9))), (0, .ref (c9)), (2, .ref (H0.size)), (3, .ref (z1)), (4, .int (iZ (((c : Nat) : Int)))), (5, .int (iZ (((d : Nat) : Int))))] := hl
        refine pb_iload C dX1_stepsFrom_86 (lv_at hl 4 rfl) ?_
        refine pb_bip C dX1_stepsFrom_88 (by decide) ?_
        refine pb_idiv C dX1_stepsFrom_90 (x := ((c : Nat) : Int)) (y := 24) (by omega) (by omega) (by omega) ?_
        refine pb_iload C dX1_stepsFrom_91 (lv_at hl 5 rfl) ?_
        refine pb_go_x (bc' := nnF F 576 + dqC m) (bs' := nnF F 576 + dqS m) (pb_runSN (rest := [.int (iZ ((((c / 24) : Nat) : Int)))]) C hG (met_X14_stepY l d (by omega)) q1571 q1294 q86 q1295 hdX14_stepY rfl hl.1 rfl (Nat.le_of_ble_eq_true rfl) ⟨(Nat.le_of_ble_eq_true rfl), (Nat.le_of_ble_eq_true rfl)⟩ dX1_stepsFrom_93) (by omega) (by omega) ?_
        refine pb_iadd C dX1_stepsFrom_96 ?_
        obtain ⟨y9, hy9⟩ : ∃ z_ : Int, z_ = ((((c / 24) : Nat) : Int) + (stY d)) := ⟨_, rfl⟩
        refine pb_eq (g2 := F0 m_ 97 ls [.int (iZ (y9))]) (by rw [hy9]) ?_
        refine pb_istore C dX1_stepsFrom_97 hl (by decide) rfl fun ls hl => ?_
        have hl : lv_has ls 8 [(7, .int (iZ (y9))), (6, .int (iZ (x9))), (0, .ref (c9)), (2, .ref (H0.size)), (3, .ref (z1)), (4, .int (iZ (((c : Nat) : Int)))), (5, .int (iZ (((d : Nat) : Int))))] := hl
        refine pb_aload_n C dX1_stepsFrom_99 rfl (lv_at hl 2 rfl) ?_
        refine pb_iload C dX1_stepsFrom_100 (lv_at hl 1 rfl) ?_
        refine pb_iload C dX1_stepsFrom_102 (lv_at hl 0 rfl) ?_
        refine pb_go_x (bc' := nnF F 576 + dqC m) (bs' := nnF F 576 + dqS m) (pb_runV (rest := []) C hG (met_X12_contains l c9 _ g hQ x9 y9 (by omega) (by omega)) hQo (ci := 11) rfl (lw_V q1572 q1034 q1035 q82 q1036) ⟨rfl, hdX12_contains⟩ rfl hl.1 rfl (Nat.le_of_ble_eq_true rfl) ⟨(Nat.le_of_ble_eq_true rfl), (Nat.le_of_ble_eq_true rfl)⟩ dX1_stepsFrom_104) (by omega) (by omega) ?_
        refine pb_ifB_eq C dX1_stepsFrom_107 (tgt := 155) (by decide) (fun c107_ => ?_) (fun c107_ => ?_)
        · refine pb_iinc C dX1_stepsFrom_155 hl (j := 6) (x := (((d : Nat) : Int))) rfl (by decide) rfl fun ls hl => ?_
          have hl : lv_has ls 8 [(5, .int (iZ ((((d + 1) : Nat) : Int)))), (7, .int (iZ (y9))), (6, .int (iZ (x9))), (0, .ref (c9)), (2, .ref (H0.size)), (3, .ref (z1)), (4, .int (iZ (((c : Nat) : Int))))] := hl
          refine pb_goto C dX1_stepsFrom_158 (tgt := 67) (by decide) ?_
          exact pb_V.mono (by omega) (by omega) (ih67 _ (by omega) c Fo Q0 (d + 1) e m h R Q A F H rfl hG (by omega) hk0 (by rw [bq4, hs, bqD_no hx9 hy9 (fun h9 => by rw [h9.1] at c107_; cases c107_)]) hc hFc (bqK_no hK) hAe hA hD hB hFF ls (lv_sub hl [3, 4, 5, 6, 0] rfl))
        · have hin := gcI_in c107_
          obtain ⟨k9, hk9⟩ : ∃ k9, k9 = ((24 * y9) + x9).toNat := ⟨_, rfl⟩
          have hk5 : k9 < 576 := by omega
          have hAk := hAe k9 hk5
          have hAr := hK.1 k9
          rw [← hAk] at hAr
          rw [hk9] at hAr hAk
          refine pb_aload_n C dX1_stepsFrom_110 rfl (lv_at hl 3 rfl) ?_
          refine pb_bip C dX1_stepsFrom_111 (by decide) ?_
          refine pb_iload C dX1_stepsFrom_113 (lv_at hl 0 rfl) ?_
          refine pb_imul C dX1_stepsFrom_115 ?_
          refine pb_iload C dX1_stepsFrom_116 (lv_at hl 1 rfl) ?_
          refine pb_iadd C dX1_stepsFrom_118 ?_
          refine pb_iald C hA.b (i := ((24 * y9) + x9)) (v := .int (iZ ((A ((((24 * y9) + x9)).toNat))))) (by omega) rfl dX1_stepsFrom_119 ?_
          refine pb_ic C dX1_stepsFrom_120 ?_
          refine pb_icmp_ne C dX1_stepsFrom_121 (x := (A ((((24 * y9) + x9)).toNat))) (y := (-1)) (tgt := 155) (by decide) (by omega) (by omega) (fun c121_ => ?_) (fun c121_ => ?_)
          · have hno9 : ¬ F ((24 * y9) + x9).toNat = -1 := by rw [← hAk]; exact c121_
            refine pb_iinc C dX1_stepsFrom_155 hl (j := 6) (x := (((d : Nat) : Int))) rfl (by decide) rfl fun ls hl => ?_
            have hl : lv_has ls 8 [(5, .int (iZ ((((d + 1) : Nat) : Int)))), (7, .int (iZ (y9))), (6, .int (iZ (x9))), (0, .ref (c9)), (2, .ref (H0.size)), (3, .ref (z1)), (4, .int (iZ (((c : Nat) : Int))))] := hl
            refine pb_goto C dX1_stepsFrom_158 (tgt := 67) (by decide) ?_
            exact pb_V.mono (by omega) (by omega) (ih67 _ (by omega) c Fo Q0 (d + 1) e m h R Q A F H rfl hG (by omega) hk0 (by rw [bq4, hs, bqD_no hx9 hy9 (fun h9 => hno9 h9.2)]) hc hFc (bqK_no hK) hAe hA hD hB hFF ls (lv_sub hl [3, 4, 5, 6, 0] rfl))
          · have hFk : F ((24 * y9) + x9).toNat = -1 := by rw [← hAk]; omega
            have hFk9 : F k9 = -1 := by rw [hk9]; exact hFk
            have hAty := hA.b.ty
            have hnu := nnF_up (v := F c + 1) hFk9 (by omega) 576
            rw [if_pos hk5] at hnu
            refine pb_aload_n C dX1_stepsFrom_124 rfl (lv_at hl 3 rfl) ?_
            refine pb_bip C dX1_stepsFrom_125 (by decide) ?_
            refine pb_iload C dX1_stepsFrom_127 (lv_at hl 0 rfl) ?_
            refine pb_imul C dX1_stepsFrom_129 ?_
            refine pb_iload C dX1_stepsFrom_130 (lv_at hl 1 rfl) ?_
            refine pb_iadd C dX1_stepsFrom_132 ?_
            refine pb_aload_n C dX1_stepsFrom_133 rfl (lv_at hl 3 rfl) ?_
            refine pb_iload C dX1_stepsFrom_134 (lv_at hl 5 rfl) ?_
            refine pb_iald C hA.b (i := ((c : Nat) : Int)) (v := .int (iZ ((A c)))) (by omega) rfl dX1_stepsFrom_136 ?_
            refine pb_ic C dX1_stepsFrom_137 ?_
            refine pb_iadd C dX1_stepsFrom_138 ?_
            refine pb_iast C hA (i := ((24 * y9) + x9)) (by omega) (by omega) dX1_stepsFrom_139 fun H1_ hu_ hA => ?_
            rw [pb_upZ] at hA
            have hG := hG.kept (hu_.z (by omega))
            have hs_H1_ := hu_.1
            have hFF := hFF.tr (hu_.f.mono (fun q _ (hq : q < H0.size) => show q ≠ _ from by omega))
            have hze9 := hD.2.1
            have hD := hD.kept hu_.f (show z1 ≠ H0.size from by omega) (show _ ≠ H0.size from by omega)
            have hB := hB.map (fun b _ x h => h.kept (hu_.2 _ ((pb_R.ty h).1.ne C.inj hAty (by decide) (by decide) (by decide))))
            refine pb_aload_n C dX1_stepsFrom_140 rfl (lv_at hl 4 rfl) ?_
            refine pb_bip C dX1_stepsFrom_141 (by decide) ?_
            refine pb_iload C dX1_stepsFrom_143 (lv_at hl 0 rfl) ?_
            refine pb_imul C dX1_stepsFrom_145 ?_
            refine pb_iload C dX1_stepsFrom_146 (lv_at hl 1 rfl) ?_
            refine pb_iadd C dX1_stepsFrom_148 ?_
            refine pb_go_r (bc' := nnF F 576 + dqC m - 1) (bs' := nnF F 576 + dqS m - 1) (pb_runS (rest := [.ref (z1)]) C hG (met_J19_valueOf l ((24 * y9) + x9) (by omega)) (lw_S q1557 q1269 q84 q1270) hdJ19_valueOf rfl hl.1 rfl (Nat.le_of_ble_eq_true rfl) ⟨(Nat.le_of_ble_eq_true rfl), (Nat.le_of_ble_eq_true rfl)⟩ dX1_stepsFrom_149) (by omega) (by omega) (fun b1 H5 hp_ => ?_)
            obtain ⟨hBv, -, hF1⟩ := hp_
            have hs5 := hF1.1
            have hG := hG.kept (hF1.mono (fun q _ (hq : q < w.2.2.2) => show q < _ from by have := hG.1; omega))
            have hA := hA.kept (hF1.2 _ hA.lt hA.lt)
            have hFF0 := hFF.1
            have hFF := hFF.tr (hF1.mono (fun q _ (hq : q < H0.size) => show q < _ from by omega))
            have hD := hD.kept hF1 hD.2.2.1.lt hD.2.2.2.1.lt
            have hB := hB.keptN hF1
            obtain ⟨fsD_, hDo⟩ := hD.o
            obtain ⟨hdp1, hdp2⟩ := dqg_le hD.2.2.2.2.2.1 R.length
            have hBv : Bx w H5 b1 ((k9 : Nat) : Int) := by rw [hk9, Int.toNat_of_nonneg (by omega)]; exact hBv
            refine pb_go_v (bc' := nnF F 576 + dqC m - 1 - (dqC m - dqC (dqg m R.length))) (bs' := nnF F 576 + dqS m - 1 - (dqS m - dqS (dqg m R.length))) (pb_runV (rest := []) C hG (met_J20_addLast l z1 z1 e m h b1 R (by omega) hD hBv.El (hBv.ne C.inj hD) (by omega) (hB.el2 C.inj hD)) hDo (ci := 18) rfl (lw_V q1558 q1498 q1499 q90 q1500) ⟨rfl, hdJ20_addLast⟩ rfl hl.1 rfl (Nat.le_of_ble_eq_true rfl) ⟨(Nat.le_of_ble_eq_true rfl), (Nat.le_of_ble_eq_true rfl)⟩ dX1_stepsFrom_152) (by omega) (by omega) (fun H6 hp_ => ?_)
            obtain ⟨e1, h1, he1, hD1, hF1⟩ := hp_
            have hze := hD.2.1
            have hze1 := hD1.2.1
            have hG := hG.kept (hF1.mono (fun q _ (hq : q < w.2.2.2) => ⟨show q ≠ _ from by omega, show q ≠ _ from by omega⟩))
            have hBv := hBv.kept (hF1.2 _ hBv.lt (hBv.ne C.inj hD))
            have hB := (hB.keptD C.inj hD hF1).app (k := k9) hBv
            have hFF := hFF.tr (hF1.mono (fun q _ (hq : q < H0.size) => ⟨show q ≠ _ from by omega, show q ≠ _ from by omega⟩))
            have hA := hA.kept (hF1.2 _ hA.lt ⟨show H0.size ≠ _ from by omega, show H0.size ≠ _ from by omega⟩)
            have hD := hD1
            refine pb_iinc C dX1_stepsFrom_155 hl (j := 6) (x := (((d : Nat) : Int))) rfl (by decide) rfl fun ls hl => ?_
            have hl : lv_has ls 8 [(5, .int (iZ ((((d + 1) : Nat) : Int)))), (7, .int (iZ (y9))), (6, .int (iZ (x9))), (0, .ref (c9)), (2, .ref (H0.size)), (3, .ref (z1)), (4, .int (iZ (((c : Nat) : Int))))] := hl
            refine pb_goto C dX1_stepsFrom_158 (tgt := 67) (by decide) ?_
            exact pb_V.mono (by omega) (by omega) (ih67 _ (by omega) c Fo Q0 (d + 1) e1 (dqg m R.length) h1 (R ++ [b1]) (Q ++ [k9]) (va_up A ((24 * y9) + x9).toNat (A c + 1)) (va_up F k9 (F c + 1)) H6 rfl hG (by omega) hk0 (by rw [bq4, hs, bqD_yes hx9 hy9 ⟨c107_, hFk⟩, hk9]) hc (by unfold va_up; split <;> omega) (bqK_yes hK hk5 hFk9 hFc) (by rw [← hk9]; exact up_eq hAe (by rw [hAe c hc])) hA hD hB hFF ls (lv_sub hl [3, 4, 5, 6, 0] rfl))
    refine pb_aload_n C dX1_stepsFrom_45 rfl (lv_at hl 2 rfl) ?_
    refine pb_go_x (bc' := nnF F 576 + dqC m) (bs' := nnF F 576 + dqS m) (pb_runV (rest := []) C hG (met_J20_isEmpty l z1 z1 e m h R (by omega) hD) hDo (ci := 18) rfl (lw_V q1559 q1467 q1468 q90 q1469) ⟨rfl, hdJ20_isEmpty⟩ rfl hl.1 rfl (Nat.le_of_ble_eq_true rfl) ⟨(Nat.le_of_ble_eq_true rfl), (Nat.le_of_ble_eq_true rfl)⟩ dX1_stepsFrom_46) (by omega) (by omega) ?_
    refine pb_ifB_ne C dX1_stepsFrom_49 (tgt := 164) (by decide) (fun c49_ => ?_) (fun c49_ => ?_)
    · have c49_ := of_decide_eq_true c49_
      have hR0 : R = [] := List.length_eq_zero_iff.mp c49_
      have hQ00 : Q = [] := by rw [hR0] at hB; exact hB.nil
      refine pb_aload_n C dX1_stepsFrom_164 rfl (lv_at hl 1 rfl) ?_
      exact pb_aret C (Or.inr ⟨_, rfl⟩) dX1_stepsFrom_165 (Or.inr ⟨_, rfl⟩) (⟨_, rfl, A, F, n, hA, hAe, by rw [hk, hQ00], by rw [hk], (fun k9 => by have := hK.1 k9; omega), hFF⟩)
    · have c49_ := of_decide_eq_false c49_
      obtain ⟨v, R9, rfl⟩ := List.exists_cons_of_ne_nil (fun h9 : R = [] => c49_ (by rw [h9]; rfl))
      obtain ⟨c, Q9, rfl, hBv, hB9⟩ := hB.cons
      obtain ⟨hK9, hc, hFc⟩ := bqK_pop hK
      refine pb_aload_n C dX1_stepsFrom_52 rfl (lv_at hl 2 rfl) ?_
      refine pb_go_r (bc' := nnF F 576 + dqC m) (bs' := nnF F 576 + dqS m) (pb_runV (rest := []) C hG (met_J20_removeFirst l z1 z1 e m h v R9 (by omega) hD) hDo (ci := 18) rfl (lw_V q1560 q1561 q1562 q90 q1563) ⟨rfl, hdJ20_removeFirst⟩ rfl hl.1 rfl (Nat.le_of_ble_eq_true rfl) ⟨(Nat.le_of_ble_eq_true rfl), (Nat.le_of_ble_eq_true rfl)⟩ dX1_stepsFrom_53) (by omega) (by omega) (fun v8 H3 hp_ => ?_)
      obtain ⟨hav, hD1, hF1⟩ := hp_
      subst hav
      have hze := hD.2.1
      have hG := hG.kept (hF1.mono (fun q _ (hq : q < w.2.2.2) => ⟨show q ≠ _ from by omega, show q ≠ _ from by omega⟩))
      have hBv := hBv.kept (hF1.2 _ hBv.lt (hBv.ne C.inj hD))
      have hB9 := hB9.keptD C.inj hD hF1
      have hFF := hFF.tr (hF1.mono (fun q _ (hq : q < H0.size) => ⟨show q ≠ _ from by omega, show q ≠ _ from by omega⟩))
      have hA := hA.kept (hF1.2 _ hA.lt ⟨show H0.size ≠ _ from by omega, show H0.size ≠ _ from by omega⟩)
      have hBv9 : pb_R w H3 v8 17 [.int (iZ ((c : Nat) : Int))] := hBv
      refine pb_cast C hBv9 (ci := 17) rfl q1568 dX1_stepsFrom_56 ?_
      refine pb_go_x (bc' := nnF F 576 + dqC m) (bs' := nnF F 576 + dqS m) (pb_runV (rest := []) C hG (met_J19_intValue l v8 ((c : Nat) : Int) hBv) hBv9 (ci := 17) rfl (lw_V q1569 q1482 q1483 q84 q1484) ⟨rfl, hdJ19_intValue⟩ rfl hl.1 rfl (Nat.le_of_ble_eq_true rfl) ⟨(Nat.le_of_ble_eq_true rfl), (Nat.le_of_ble_eq_true rfl)⟩ dX1_stepsFrom_59) (by omega) (by omega) ?_
      refine pb_istore C dX1_stepsFrom_62 hl (by decide) rfl fun ls hl => ?_
      have hl : lv_has ls 8 [(4, .int (iZ (((c : Nat) : Int)))), (0, .ref (c9)), (2, .ref (H0.size)), (3, .ref (z1))] := hl
      refine pb_ic C dX1_stepsFrom_64 ?_
      refine pb_istore C dX1_stepsFrom_65 hl (by decide) rfl fun ls hl => ?_
      have hl : lv_has ls 8 [(5, .int (iZ (0))), (4, .int (iZ (((c : Nat) : Int)))), (0, .ref (c9)), (2, .ref (H0.size)), (3, .ref (z1))] := hl
      exact pb_V.mono (by omega) (by omega) (L67 _ c F Q9 0 e m (dqP m h) R9 Q9 A F H3 rfl hG (by omega) hk rfl hc hFc hK9 hAe hA hD1 hB9 hFF ls (lv_sub hl [2, 3, 4, 1, 0] rfl))
  have L8 : ∀ (n_ : Nat) (j : Nat) (H : Heap), 576 - j = n_ → (pb_G w s_ H) → (j ≤ 576) → (pb_A w H H0.size 0 576 (pb_zf (mdZ (fun _ => (-1 : Int)) (fun _ => 0) j))) → (H0.size < H.size) → (pb_F (fun q => q < H0.size) H0 H) → ∀ (ls : Array Slot), lv_has ls 8 [(0, .ref (c9)), (1, .int (iZ (((a : Nat) : Int)))), (2, .ref (H0.size)), (3, .int (iZ (((j : Nat) : Int))))] → pb_V w.2.2.2 p_ l e_ (pb_rm 5 (587) (3578)) s_ m_ ar_ bl_ me_ co_ H (586) (3002) (pb_E w bl_ ar_ s_ (587) (3578) (pb_qr (fun s H1 => ∃ A F n, pb_A w H1 s 0 576 (pb_zf A) ∧ (∀ k, k < 576 → A k = F k) ∧ (bqN g a n).2 = [] ∧ (bqN g a n).1 = F ∧ (∀ k, F k ≤ 2400) ∧ pb_F (fun q => q < H0.size) H0 H1))) (F0 m_ 8 ls []) := by
    intro n_
    induction n_ using Nat.strongRecOn with
    | _ n_ ih8 =>
    intro j H hm_ hG hj hA hsz hFF ls hl
    refine pb_iload_n C dX1_stepsFrom_8 rfl (lv_at hl 3 rfl) ?_
    refine pb_sip C dX1_stepsFrom_9 (by decide) ?_
    refine pb_icmp_ge C dX1_stepsFrom_12 (x := ((j : Nat) : Int)) (y := 576) (tgt := 25) (by decide) (by omega) (by omega) (fun c12_ => ?_) (fun c12_ => ?_)
    · obtain ⟨z1, hz1⟩ : ∃ z1, z1 = H.size := ⟨_, rfl⟩
      refine pb_newE C in_J20 tyJ20 tyJ20_ok (ci := 18) rfl q1555 q1450 q90 (fs := [.null, .int (iZ (0)), .int (iZ (0))]) (by decide) (bc' := 585) (bs' := 2999) (by omega) (by omega) dX1_stepsFrom_25 fun a2_ H2_ ha_ hn_ hN2_ => ?_
      have hs2_ : H2_.size = H.size + 1 := hn_.1
      have hG := hG.kept (hn_.f.mono (fun _ _ _ => trivial))
      have hA := hA.kept (hn_.2 _ hA.lt)
      have hFF := hFF.tr (hn_.f.mono (fun _ _ _ => trivial))
      obtain rfl : z1 = a2_ := by omega
      skip
      have hN := hN2_
      refine pb_dup C dX1_stepsFrom_28 rfl ?_
      refine pb_go_v (bc' := 584) (bs' := 2982) (pb_runI (rest := [.ref (z1)]) C hG (met_J20_init l z1 z1 (by omega) (Nat.le_refl _) hN) q1556 q1452 q90 q1453 rfl hdJ20_init rfl hl.1 rfl (Nat.le_of_ble_eq_true rfl) ⟨(Nat.le_of_ble_eq_true rfl), (Nat.le_of_ble_eq_true rfl)⟩ dX1_stepsFrom_29) (by omega) (by omega) (fun H2 hp_ => ?_)
      obtain ⟨hD, hF1⟩ := hp_
      have hs9 := hF1.1
      have hG := hG.kept (hF1.mono (fun q _ (hq : q < w.2.2.2) => show q ≠ _ from by omega))
      have hFF := hFF.tr (hF1.mono (fun q _ (hq : q < H0.size) => show q ≠ _ from by omega))
      have hA := hA.kept (hF1.2 _ hA.lt (show H0.size ≠ _ from by omega))
      skip
      have hd17 : dqC 17 = 8 ∧ dqS 17 = 2406 := ⟨rfl, rfl⟩
      have hAty := hA.b.ty
      have hB : Bxl w H2 [] [] := trivial
      refine pb_astore_n C dX1_stepsFrom_32 rfl hl (by decide) rfl fun ls hl => ?_
      have hl : lv_has ls 8 [(3, .ref (z1)), (0, .ref (c9)), (1, .int (iZ (((a : Nat) : Int)))), (2, .ref (H0.size))] := hl
      refine pb_aload_n C dX1_stepsFrom_33 rfl (lv_at hl 3 rfl) ?_
      refine pb_iload_n C dX1_stepsFrom_34 rfl (lv_at hl 2 rfl) ?_
      refine pb_ic C dX1_stepsFrom_35 ?_
      refine pb_iast C hA (i := ((a : Nat) : Int)) (by omega) (by omega) dX1_stepsFrom_36 fun H3_ hu_ hA => ?_
      rw [Int.toNat_natCast, pb_upZ] at hA
      have hG := hG.kept (hu_.z (by omega))
      have hs_H3_ := hu_.1
      have hFF := hFF.tr (hu_.f.mono (fun q _ (hq : q < H0.size) => show q ≠ _ from by omega))
      have hze9 := hD.2.1
      have hD := hD.kept hu_.f (show z1 ≠ H0.size from by omega) (show _ ≠ H0.size from by omega)
      have hB := hB.map (fun b _ x h => h.kept (hu_.2 _ ((pb_R.ty h).1.ne C.inj hAty (by decide) (by decide) (by decide))))
      refine pb_aload_n C dX1_stepsFrom_37 rfl (lv_at hl 0 rfl) ?_
      refine pb_iload_n C dX1_stepsFrom_38 rfl (lv_at hl 2 rfl) ?_
      refine pb_go_r (bc' := 583) (bs' := 2981) (pb_runS (rest := [.ref (z1)]) C hG (met_J19_valueOf l ((a : Nat) : Int) (by omega)) (lw_S q1557 q1269 q84 q1270) hdJ19_valueOf rfl hl.1 rfl (Nat.le_of_ble_eq_true rfl) ⟨(Nat.le_of_ble_eq_true rfl), (Nat.le_of_ble_eq_true rfl)⟩ dX1_stepsFrom_39) (by omega) (by omega) (fun b1 H5 hp_ => ?_)
      obtain ⟨hBv, -, hF1⟩ := hp_
      have hs5 := hF1.1
      have hG := hG.kept (hF1.mono (fun q _ (hq : q < w.2.2.2) => show q < _ from by have := hG.1; omega))
      have hA := hA.kept (hF1.2 _ hA.lt hA.lt)
      have hFF0 := hFF.1
      have hFF := hFF.tr (hF1.mono (fun q _ (hq : q < H0.size) => show q < _ from by omega))
      have hD := hD.kept hF1 hD.2.2.1.lt hD.2.2.2.1.lt
      have hB := hB.keptN hF1
      obtain ⟨fsD_, hDo⟩ := hD.o
      obtain ⟨hdp1, hdp2⟩ := dqg_le hD.2.2.2.2.2.1 ([] : List Nat).length
      have hnil : ([] : List Nat).length < 837 := by decide
      have hnn := nnF_0 ha
      have hg17 : dqC (dqg 17 ([] : List Nat).length) = 8 ∧ dqS (dqg 17 ([] : List Nat).length) = 2406 := ⟨rfl, rfl⟩
      refine pb_go_v (bc' := 583 - (dqC 17 - dqC (dqg 17 ([] : List Nat).length))) (bs' := 2981 - (dqS 17 - dqS (dqg 17 ([] : List Nat).length))) (pb_runV (rest := []) C hG (met_J20_addLast l z1 z1 _ 17 0 b1 ([] : List Nat) (by omega) hD hBv.El (hBv.ne C.inj hD) (by omega) (hB.el2 C.inj hD)) hDo (ci := 18) rfl (lw_V q1558 q1498 q1499 q90 q1500) ⟨rfl, hdJ20_addLast⟩ rfl hl.1 rfl (Nat.le_of_ble_eq_true rfl) ⟨(Nat.le_of_ble_eq_true rfl), (Nat.le_of_ble_eq_true rfl)⟩ dX1_stepsFrom_42) (by omega) (by omega) (fun H6 hp_ => ?_)
      obtain ⟨e1, h1, he1, hD1, hF1⟩ := hp_
      have hze := hD.2.1
      have hze1 := hD1.2.1
      have hG := hG.kept (hF1.mono (fun q _ (hq : q < w.2.2.2) => ⟨show q ≠ _ from by omega, show q ≠ _ from by omega⟩))
      have hBv := hBv.kept (hF1.2 _ hBv.lt (hBv.ne C.inj hD))
      have hB := (hB.keptD C.inj hD hF1).app (k := a) hBv
      have hFF := hFF.tr (hF1.mono (fun q _ (hq : q < H0.size) => ⟨show q ≠ _ from by omega, show q ≠ _ from by omega⟩))
      have hA := hA.kept (hF1.2 _ hA.lt ⟨show H0.size ≠ _ from by omega, show H0.size ≠ _ from by omega⟩)
      have hD := hD1
      exact pb_V.mono (by omega) (by omega) (L45 _ 0 z1 e1 (dqg 17 ([] : List Nat).length) h1 ([] ++ [b1]) ([] ++ [a]) (va_up (mdZ (fun _ => (-1 : Int)) (fun _ => 0) j) a 0) (fun k => if k = a then 0 else -1) H6 rfl hG rfl (bqK_0 ha) (fil_eq (by omega)) hA hD hB (by omega) hFF ls (lv_sub hl [1, 3, 0] rfl))
    · refine pb_aload_n C dX1_stepsFrom_15 rfl (lv_at hl 2 rfl) ?_
      refine pb_iload_n C dX1_stepsFrom_16 rfl (lv_at hl 3 rfl) ?_
      refine pb_ic C dX1_stepsFrom_17 ?_
      refine pb_iast C hA (i := ((j : Nat) : Int)) (by omega) (by omega) dX1_stepsFrom_18 fun H4_ hu_ hA => ?_
      rw [Int.toNat_natCast, pb_upZ, mdZ_step (fun _ => (-1 : Int)) (fun _ => 0) j rfl] at hA
      have hG := hG.kept (hu_.z (by omega))
      have hs_H4_ := hu_.1
      have hFF := hFF.tr (hu_.f.mono (fun q _ (hq : q < H0.size) => show q ≠ _ from by omega))
      refine pb_iinc C dX1_stepsFrom_19 hl (j := 3) (x := (((j : Nat) : Int))) rfl (by decide) rfl fun ls hl => ?_
      have hl : lv_has ls 8 [(3, .int (iZ ((((j + 1) : Nat) : Int)))), (0, .ref (c9)), (1, .int (iZ (((a : Nat) : Int)))), (2, .ref (H0.size))] := hl
      refine pb_goto C dX1_stepsFrom_22 (tgt := 8) (by decide) ?_
      exact pb_V.mono (by omega) (by omega) (ih8 _ (by omega) (j + 1) H4_ rfl hG (by omega) hA (by omega) hFF ls (lv_sub hl [1, 2, 3, 0] rfl))
  refine pb_sip C dX1_stepsFrom_0 (by decide) ?_
  refine pb_newaE C 0 (by decide) (atype := .int) rfl q417 (n := 576) (by omega) rfl (bc' := 586) (bs' := 3002) (by omega) (by omega) dX1_stepsFrom_3 fun a5_ H5_ ha_ hn_ hN5_ => ?_
  have hs5_ : H5_.size = H0.size + 1 := hn_.1
  have hG := hG.kept (hn_.f.mono (fun _ _ _ => trivial))
  have hFF := hFF.tr (hn_.f.mono (fun _ _ _ => trivial))
  obtain rfl : a5_ = H0.size := by omega
  skip
  have hA := hN5_
  have hA : pb_A w H5_ (H0.size) 0 576 (fun _ => .int (iZ (0))) := hA
  refine pb_astore_n C dX1_stepsFrom_5 rfl hl (by decide) rfl fun ls hl => ?_
  have hl : lv_has ls 8 [(2, .ref (H0.size)), (0, .ref (c9)), (1, .int (iZ (((a : Nat) : Int))))] := hl
  refine pb_ic C dX1_stepsFrom_6 ?_
  refine pb_istore_n C dX1_stepsFrom_7 rfl hl (by decide) rfl fun ls hl => ?_
  have hl : lv_has ls 8 [(3, .int (iZ (0))), (2, .ref (H0.size)), (0, .ref (c9)), (1, .int (iZ (((a : Nat) : Int))))] := hl
  exact pb_V.mono (by omega) (by omega) (L8 _ 0 H5_ rfl hG (by omega) (by rw [mdZ_0]; exact hA) (by omega) hFF ls (lv_sub hl [2, 3, 1, 0] rfl))

