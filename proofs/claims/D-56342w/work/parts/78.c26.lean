set_option maxRecDepth 100000
set_option maxHeartbeats 1000000 in
theorem met_X12_largestBelow {w : pb_W} (l : Launch) {H0 : Heap} (a : Nat) (hts : Nat → Nat) (hA0 : pb_B w H0 a 0 25 (pb_nf hts)) (hts24 : ∀ i, hts i ≤ 24) : pb_M w l yX12_largestBelow cX12_largestBelow 7 (some .int) 5 (35) (2451) [.ref (a)] H0 (pb_qi (fun v H1 => v = (((lbS hts 25).2 : Nat) : Int) ∧ pb_F (fun q => q < H0.size) H0 H1)) := by
  refine pb_of (by decide +kernel) (Nat.le_of_ble_eq_true rfl) ?_
  intro p_ e_ s_ m_ ar_ bl_ me_ co_ ls C hh hG hl
  have hl : lv_has ls 7 [(0, .ref (a))] := hl
  have hzs := hG.1
  have hFF : pb_F (fun q => q < H0.size) H0 H0 := pb_F.rf
  have L12 : ∀ (n_ : Nat) (x b e m h : Nat) (R S : List Nat) (H : Heap), 25 - x = n_ → (pb_G w s_ H) → (x ≤ 25) → ((S, b) = lbS hts x) → (Dq w H H0.size H0.size e m h R.reverse) → (Bxl w H R S) → (∀ s ∈ S, s < x) → (R.length ≤ x) → (b ≤ 600) → (pb_F (fun q => q < H0.size) H0 H) → ∀ (ls : Array Slot), lv_has ls 7 [(0, .ref (a)), (1, .ref (H0.size)), (2, .int (iZ (((b : Nat) : Int)))), (3, .int (iZ (((x : Nat) : Int))))] → pb_V w.2.2.2 p_ l e_ (pb_rm 5 (35) (2451)) s_ m_ ar_ bl_ me_ co_ H ((25 - x) + dqC m) ((25 - x) + dqS m) (pb_E w bl_ ar_ s_ (35) (2451) (pb_qi (fun v H1 => v = (((lbS hts 25).2 : Nat) : Int) ∧ pb_F (fun q => q < H0.size) H0 H1))) (F0 m_ 12 ls []) := by
    intro n_
    induction n_ using Nat.strongRecOn with
    | _ n_ ih12 =>
    intro x b e m h R S H hm_ hG hx hS hD hB hst hRl hbb hFF ls hl
    have hA := hA0.kept (hFF.2 _ hA0.lt hA0.lt)
    have L31 : ∀ (hg : Nat), (hg = if x = 24 then 0 else hts x) → (x ≤ 24) →  ∀ (ls : Array Slot), lv_has ls 7 [(0, .ref (a)), (1, .ref (H0.size)), (2, .int (iZ (((b : Nat) : Int)))), (3, .int (iZ (((x : Nat) : Int))))] → pb_V w.2.2.2 p_ l e_ (pb_rm 5 (35) (2451)) s_ m_ ar_ bl_ me_ co_ H ((25 - x) + dqC m) ((25 - x) + dqS m) (pb_E w bl_ ar_ s_ (35) (2451) (pb_qi (fun v H1 => v = (((lbS hts 25).2 : Nat) : Int) ∧ pb_F (fun q => q < H0.size) H0 H1))) (F0 m_ 31 ls [.int (iZ (((hg : Nat) : Int)))]) := by
      intro hg hhg hx1 ls hl
      have hgb : hg ≤ 24 := by rw [hhg]; split; exact Nat.zero_le _; exact hts24 x
      have L33 : ∀ (n_ : Nat) (b e m h : Nat) (R S : List Nat) (H : Heap), R.length = n_ → (pb_G w s_ H) → (lbPop hts x hg S b = lbPop hts x hg (lbS hts x).1 (lbS hts x).2) → (Dq w H H0.size H0.size e m h R.reverse) → (Bxl w H R S) → (∀ s ∈ S, s < x) → (R.length ≤ x) → (b ≤ 600) → (pb_F (fun q => q < H0.size) H0 H) → ∀ (ls : Array Slot), lv_has ls 7 [(0, .ref (a)), (1, .ref (H0.size)), (2, .int (iZ (((b : Nat) : Int)))), (3, .int (iZ (((x : Nat) : Int)))), (4, .int (iZ (((hg : Nat) : Int))))] → pb_V w.2.2.2 p_ l e_ (pb_rm 5 (35) (2451)) s_ m_ ar_ bl_ me_ co_ H ((25 - x) + dqC m) ((25 - x) + dqS m) (pb_E w bl_ ar_ s_ (35) (2451) (pb_qi (fun v H1 => v = (((lbS hts 25).2 : Nat) : Int) ∧ pb_F (fun q => q < H0.size) H0 H1))) (F0 m_ 33 ls []) := by
        intro n_
        induction n_ using Nat.strongRecOn with
        | _ n_ ih33 =>
        intro b e m h R S H hm_ hG hq hD hB hst hRl hbb hFF ls hl
        have hA := hA0.kept (hFF.2 _ hA0.lt hA0.lt)
        obtain ⟨fsD_, hDo⟩ := hD.o
        have L111 : (lbPop hts x hg S b = (S, b)) →  ∀ (ls : Array Slot), lv_has ls 7 [(0, .ref (a)), (1, .ref (H0.size)), (2, .int (iZ (((b : Nat) : Int)))), (3, .int (iZ (((x : Nat) : Int))))] → pb_V w.2.2.2 p_ l e_ (pb_rm 5 (35) (2451)) s_ m_ ar_ bl_ me_ co_ H ((25 - x) + dqC m) ((25 - x) + dqS m) (pb_E w bl_ ar_ s_ (35) (2451) (pb_qi (fun v H1 => v = (((lbS hts 25).2 : Nat) : Int) ∧ pb_F (fun q => q < H0.size) H0 H1))) (F0 m_ 111 ls []) := by
          intro  hE ls hl
          obtain ⟨hdp1, hdp2⟩ := dqg_le hD.2.2.2.2.2.1 R.reverse.length
          have hrl := @List.length_reverse _ R
          refine pb_aload_n C dX12_largestBelow_111 rfl (lv_at hl 1 rfl) ?_
          refine pb_iload_n C dX12_largestBelow_112 rfl (lv_at hl 3 rfl) ?_
          refine pb_go_r (bc' := (25 - x) + dqC m - 1) (bs' := (25 - x) + dqS m - 1) (pb_runS (rest := [.ref (H0.size)]) C hG (met_J19_valueOf l ((x : Nat) : Int) (by omega)) (lw_S q1496 q1269 q84 q1270) hdJ19_valueOf rfl hl.1 rfl (Nat.le_of_ble_eq_true rfl) ⟨(Nat.le_of_ble_eq_true rfl), (Nat.le_of_ble_eq_true rfl)⟩ dX12_largestBelow_113) (by omega) (by omega) (fun v1 H_ hp_ => ?_)
          obtain ⟨hBv1, -, hF1⟩ := hp_
          have hsz9 := hFF.1
          have hG := hG.kept (hF1.mono (fun q _ (hq : q < w.2.2.2) => Nat.lt_of_lt_of_le hq hG.1))
          have hFF := hFF.tr (hF1.mono (fun q _ (hq : q < H0.size) => Nat.lt_of_lt_of_le hq hFF.1))
          have hD := hD.kept hF1 hD.2.2.1.lt hD.2.2.2.1.lt
          have hB := hB.keptN hF1
          obtain ⟨fsD_, hDo⟩ := hD.o
          refine pb_go_v (bc' := (25 - x) + dqC m - 1 - (dqC m - dqC (dqg m R.reverse.length))) (bs' := (25 - x) + dqS m - 1 - (dqS m - dqS (dqg m R.reverse.length))) (pb_runV (rest := []) C hG (met_J20_addLast l H0.size H0.size e m h v1 R.reverse hzs hD hBv1.El (hBv1.ne C.inj hD) (by omega) (hB.el C.inj hD)) hDo (ci := 18) rfl (lw_V q1497 q1498 q1499 q90 q1500) ⟨rfl, hdJ20_addLast⟩ rfl hl.1 rfl (Nat.le_of_ble_eq_true rfl) ⟨(Nat.le_of_ble_eq_true rfl), (Nat.le_of_ble_eq_true rfl)⟩ dX12_largestBelow_116) (by omega) (by omega) (fun H_ hp_ => ?_)
          obtain ⟨e1, h1, he1, hD1, hF1⟩ := hp_
          have hze := hD.2.1
          have hze1 := hD1.2.1
          have hG := hG.kept (hF1.mono (fun q _ (hq : q < w.2.2.2) => ⟨show q ≠ _ from by omega, show q ≠ _ from by omega⟩))
          have hBv1 := hBv1.kept (hF1.2 _ hBv1.lt (hBv1.ne C.inj hD))
          have hB := hB.keptD C.inj hD hF1
          have hFF := hFF.tr (hF1.mono (fun q _ (hq : q < H0.size) => ⟨show q ≠ _ from by omega, show q ≠ _ from by omega⟩))
          have hD := hD1
          refine pb_iinc C dX12_largestBelow_119 hl (j := 3) (x := (((x : Nat) : Int))) rfl (by decide) rfl fun ls hl => ?_
          have hl : lv_has ls 7 [(3, .int (iZ ((((x + 1) : Nat) : Int)))), (0, .ref (a)), (1, .ref (H0.size)), (2, .int (iZ (((b : Nat) : Int))))] := hl
          refine pb_goto C dX12_largestBelow_122 (tgt := 12) (by decide) ?_
          exact pb_V.mono (by omega) (by omega) (ih12 _ (by omega) (x + 1) b e1 (dqg m R.reverse.length) h1 (v1 :: R) (x :: S) H_ rfl hG (by omega) (by rw [lbS, ← hhg, ← hq, hE]) (by rw [List.reverse_cons]; exact hD) ⟨hBv1, hB⟩ (fun s h9 => (List.mem_cons.mp h9).elim (fun h => by omega) (fun h => by have := hst s h; omega)) (by rw [List.length_cons]; omega) (by omega) hFF ls (lv_sub hl [1, 2, 3, 0] rfl))
        refine pb_aload_n C dX12_largestBelow_33 rfl (lv_at hl 1 rfl) ?_
        refine pb_go_x (bc' := (25 - x) + dqC m) (bs' := (25 - x) + dqS m) (pb_runV (rest := []) C hG (met_J20_isEmpty l H0.size H0.size e m h R.reverse hzs hD) hDo (ci := 18) rfl (lw_V q1466 q1467 q1468 q90 q1469) ⟨rfl, hdJ20_isEmpty⟩ rfl hl.1 rfl (Nat.le_of_ble_eq_true rfl) ⟨(Nat.le_of_ble_eq_true rfl), (Nat.le_of_ble_eq_true rfl)⟩ dX12_largestBelow_34) (by omega) (by omega) ?_
        refine pb_ifB_ne C dX12_largestBelow_37 (tgt := 111) (by decide) (fun c37_ => ?_) (fun c37_ => ?_)
        · have c37_ := of_decide_eq_true c37_
          have hR0 : R = [] := by rw [← List.length_eq_zero_iff, ← List.length_reverse]; exact c37_
          have hS0 : S = [] := by rw [hR0] at hB; exact hB.nil
          have hE : lbPop hts x hg S b = (S, b) := by rw [hS0]; rfl
          exact pb_V.mono (by omega) (by omega) (L111  hE ls (lv_sub hl [0, 1, 2, 3] rfl))
        · have c37_ := of_decide_eq_false c37_
          obtain ⟨v, R9, rfl⟩ := List.exists_cons_of_ne_nil (fun h9 : R = [] => c37_ (by rw [h9]; rfl))
          obtain ⟨s, S9, rfl, hBv, hB9⟩ := hB.cons
          rw [List.reverse_cons] at hD
          have hsx := hst s List.mem_cons_self
          have hhs := hts24 s
          have hBv9 : pb_R w H v 17 [.int (iZ ((s : Nat) : Int))] := hBv
          have hrl9 : (v :: R9).length = R9.length + 1 := List.length_cons
          refine pb_aload_n C dX12_largestBelow_40 rfl (lv_at hl 0 rfl) ?_
          refine pb_aload_n C dX12_largestBelow_41 rfl (lv_at hl 1 rfl) ?_
          refine pb_go_x (bc' := (25 - x) + dqC m) (bs' := (25 - x) + dqS m) (pb_runV (rest := [.ref (a)]) C hG (met_J20_peekLast l H0.size H0.size e m h v R9.reverse hzs hD) hDo (ci := 18) rfl (lw_V q1470 q1471 q1472 q90 q1473) ⟨rfl, hdJ20_peekLast⟩ rfl hl.1 rfl (Nat.le_of_ble_eq_true rfl) ⟨(Nat.le_of_ble_eq_true rfl), (Nat.le_of_ble_eq_true rfl)⟩ dX12_largestBelow_42) (by omega) (by omega) ?_
          refine pb_cast C hBv9 (ci := 17) rfl q1480 dX12_largestBelow_45 ?_
          refine pb_go_x (bc' := (25 - x) + dqC m) (bs' := (25 - x) + dqS m) (pb_runV (rest := [.ref (a)]) C hG (met_J19_intValue l v ((s : Nat) : Int) hBv) hBv9 (ci := 17) rfl (lw_V q1481 q1482 q1483 q84 q1484) ⟨rfl, hdJ19_intValue⟩ rfl hl.1 rfl (Nat.le_of_ble_eq_true rfl) ⟨(Nat.le_of_ble_eq_true rfl), (Nat.le_of_ble_eq_true rfl)⟩ dX12_largestBelow_48) (by omega) (by omega) ?_
          refine pb_iald C hA (i := ((s : Nat) : Int)) (v := .int (iZ ((((hts s) : Nat) : Int)))) (by omega) rfl dX12_largestBelow_51 ?_
          refine pb_iload C dX12_largestBelow_52 (lv_at hl 4 rfl) ?_
          refine pb_icmp_lt C dX12_largestBelow_54 (x := (((hts s) : Nat) : Int)) (y := ((hg : Nat) : Int)) (tgt := 111) (by decide) (by omega) (by omega) (fun c54_ => ?_) (fun c54_ => ?_)
          · have hE := lbPop_n (b := b) (S := S9) (x := x) (show ¬ hg ≤ hts s from by omega)
            exact pb_V.mono (by omega) (by omega) (L111  hE ls (lv_sub hl [0, 1, 2, 3] rfl))
          · refine pb_aload_n C dX12_largestBelow_57 rfl (lv_at hl 0 rfl) ?_
            refine pb_aload_n C dX12_largestBelow_58 rfl (lv_at hl 1 rfl) ?_
            refine pb_go_r (bc' := (25 - x) + dqC m) (bs' := (25 - x) + dqS m) (pb_runV (rest := [.ref (a)]) C hG (met_J20_removeLast l H0.size H0.size e m h v R9.reverse hzs hD) hDo (ci := 18) rfl (lw_V q1485 q1486 q1487 q90 q1488) ⟨rfl, hdJ20_removeLast⟩ rfl hl.1 rfl (Nat.le_of_ble_eq_true rfl) ⟨(Nat.le_of_ble_eq_true rfl), (Nat.le_of_ble_eq_true rfl)⟩ dX12_largestBelow_59) (by omega) (by omega) (fun a_ H_ hp_ => ?_)
            obtain ⟨hav, hD1, hF1⟩ := hp_
            subst hav
            have hze1 := hD1.2.1
            have hG := hG.kept (hF1.mono (fun q _ (hq : q < w.2.2.2) => ⟨show q ≠ _ from by omega, show q ≠ _ from by omega⟩))
            have hBv := hBv.kept (hF1.2 _ hBv.lt (hBv.ne C.inj hD))
            have hB9 := hB9.keptD C.inj hD hF1
            have hFF := hFF.tr (hF1.mono (fun q _ (hq : q < H0.size) => ⟨show q ≠ _ from by omega, show q ≠ _ from by omega⟩))
            have hD := hD1
            have hA := hA0.kept (hFF.2 _ hA0.lt hA0.lt)
            have hBv9 : pb_R w H_ a_ 17 [.int (iZ ((s : Nat) : Int))] := hBv
            obtain ⟨fsD_, hDo⟩ := hD.o
            refine pb_cast C hBv9 (ci := 17) rfl q1480 dX12_largestBelow_62 ?_
            refine pb_go_x (bc' := (25 - x) + dqC m) (bs' := (25 - x) + dqS m) (pb_runV (rest := [.ref (a)]) C hG (met_J19_intValue l a_ ((s : Nat) : Int) hBv) hBv9 (ci := 17) rfl (lw_V q1481 q1482 q1483 q84 q1484) ⟨rfl, hdJ19_intValue⟩ rfl hl.1 rfl (Nat.le_of_ble_eq_true rfl) ⟨(Nat.le_of_ble_eq_true rfl), (Nat.le_of_ble_eq_true rfl)⟩ dX12_largestBelow_65) (by omega) (by omega) ?_
            refine pb_iald C hA (i := ((s : Nat) : Int)) (v := .int (iZ ((((hts s) : Nat) : Int)))) (by omega) rfl dX12_largestBelow_68 ?_
            refine pb_istore C dX12_largestBelow_69 hl (by decide) rfl fun ls hl => ?_
            have hl : lv_has ls 7 [(5, .int (iZ ((((hts s) : Nat) : Int)))), (0, .ref (a)), (1, .ref (H0.size)), (2, .int (iZ (((b : Nat) : Int)))), (3, .int (iZ (((x : Nat) : Int)))), (4, .int (iZ (((hg : Nat) : Int))))] := hl
            refine pb_aload_n C dX12_largestBelow_71 rfl (lv_at hl 2 rfl) ?_
            refine pb_go_x (bc' := (25 - x) + dqC m) (bs' := (25 - x) + dqS m) (pb_runV (rest := []) C hG (met_J20_isEmpty l H0.size H0.size e m h R9.reverse hzs hD) hDo (ci := 18) rfl (lw_V q1466 q1467 q1468 q90 q1469) ⟨rfl, hdJ20_isEmpty⟩ rfl hl.1 rfl (Nat.le_of_ble_eq_true rfl) ⟨(Nat.le_of_ble_eq_true rfl), (Nat.le_of_ble_eq_true rfl)⟩ dX12_largestBelow_72) (by omega) (by omega) ?_
            refine pb_ifB_eq C dX12_largestBelow_75 (tgt := 82) (by decide) (fun c75_ => ?_) (fun c75_ => ?_)
            · have c75_ := of_decide_eq_false c75_
              obtain ⟨v2, R8, hR8⟩ := List.exists_cons_of_ne_nil (fun h9 : R9 = [] => c75_ (by rw [h9]; rfl))
              obtain ⟨s2, S8, hS8, hBv2, hB8⟩ := (show Bxl w _ (v2 :: R8) S9 from hR8 ▸ hB9).cons
              have hD2 := hD
              rw [hR8, List.reverse_cons] at hD2
              have hl9 : lbL S9 = s2 + 1 := by rw [hS8]; rfl
              have hsx2 := hst s2 (by rw [hS8]; simp)
              have hBv29 : pb_R w _ v2 17 [.int (iZ ((s2 : Nat) : Int))] := hBv2
              refine pb_aload_n C dX12_largestBelow_82 rfl (lv_at hl 2 rfl) ?_
              refine pb_go_x (bc' := (25 - x) + dqC m) (bs' := (25 - x) + dqS m) (pb_runV (rest := []) C hG (met_J20_peekLast l H0.size H0.size e m h v2 R8.reverse hzs hD2) hDo (ci := 18) rfl (lw_V q1470 q1471 q1472 q90 q1473) ⟨rfl, hdJ20_peekLast⟩ rfl hl.1 rfl (Nat.le_of_ble_eq_true rfl) ⟨(Nat.le_of_ble_eq_true rfl), (Nat.le_of_ble_eq_true rfl)⟩ dX12_largestBelow_83) (by omega) (by omega) ?_
              refine pb_cast C hBv29 (ci := 17) rfl q1480 dX12_largestBelow_86 ?_
              refine pb_go_x (bc' := (25 - x) + dqC m) (bs' := (25 - x) + dqS m) (pb_runV (rest := []) C hG (met_J19_intValue l v2 ((s2 : Nat) : Int) hBv2) hBv29 (ci := 17) rfl (lw_V q1481 q1482 q1483 q84 q1484) ⟨rfl, hdJ19_intValue⟩ rfl hl.1 rfl (Nat.le_of_ble_eq_true rfl) ⟨(Nat.le_of_ble_eq_true rfl), (Nat.le_of_ble_eq_true rfl)⟩ dX12_largestBelow_89) (by omega) (by omega) ?_
              refine pb_ic C dX12_largestBelow_92 ?_
              refine pb_iadd C dX12_largestBelow_93 ?_
              refine pb_istore C dX12_largestBelow_94 hl (by decide) rfl fun ls hl => ?_
              have hl : lv_has ls 7 [(6, .int (iZ ((((s2 + 1) : Nat) : Int)))), (5, .int (iZ ((((hts s) : Nat) : Int)))), (0, .ref (a)), (1, .ref (H0.size)), (2, .int (iZ (((b : Nat) : Int)))), (3, .int (iZ (((x : Nat) : Int)))), (4, .int (iZ (((hg : Nat) : Int))))] := hl
              refine pb_iload_n C dX12_largestBelow_96 rfl (lv_at hl 4 rfl) ?_
              refine pb_iload C dX12_largestBelow_97 (lv_at hl 1 rfl) ?_
              refine pb_iload_n C dX12_largestBelow_99 rfl (lv_at hl 5 rfl) ?_
              refine pb_iload C dX12_largestBelow_100 (lv_at hl 0 rfl) ?_
              refine pb_isub C dX12_largestBelow_102 ?_
              refine pb_eq (g2 := F0 m_ 103 ls [.int (iZ ((((x - lbL S9) : Nat) : Int))), .int (iZ ((((hts s) : Nat) : Int))), .int (iZ (((b : Nat) : Int)))]) (congrArg (fun z9 => F0 m_ 103 ls [.int (iZ z9), .int (iZ ((((hts s) : Nat) : Int))), .int (iZ (((b : Nat) : Int)))]) (show (((x : Nat) : Int) - (((s2 + 1) : Nat) : Int)) = (((x - lbL S9) : Nat) : Int) from (by omega))) ?_
              refine pb_imul C dX12_largestBelow_103 ?_
              have hpr : hts s * (x - lbL S9) ≤ 24 * 25 := Nat.mul_le_mul hhs (by omega)
              refine pb_mmax C (x := ((b : Nat) : Int)) (y := ((((hts s) * (x - lbL S9)) : Nat) : Int)) q1495 q171 q57 q172 hl.1 ⟨(Nat.le_of_ble_eq_true rfl), (Nat.le_of_ble_eq_true rfl)⟩ (by omega) (by omega) dX12_largestBelow_104 ?_
              refine pb_eq (g2 := F0 m_ 107 ls [.int (iZ ((((max b (hts s * (x - lbL S9))) : Nat) : Int)))]) (congrArg (fun z9 => F0 m_ 107 ls [.int (iZ z9)]) (show (max (((b : Nat) : Int)) (((((hts s) * (x - lbL S9)) : Nat) : Int))) = (((max b (hts s * (x - lbL S9))) : Nat) : Int) from (by omega))) ?_
              refine pb_istore_n C dX12_largestBelow_107 rfl hl (by decide) rfl fun ls hl => ?_
              have hl : lv_has ls 7 [(2, .int (iZ ((((max b (hts s * (x - lbL S9))) : Nat) : Int)))), (6, .int (iZ ((((s2 + 1) : Nat) : Int)))), (5, .int (iZ ((((hts s) : Nat) : Int)))), (0, .ref (a)), (1, .ref (H0.size)), (3, .int (iZ (((x : Nat) : Int)))), (4, .int (iZ (((hg : Nat) : Int))))] := hl
              refine pb_goto C dX12_largestBelow_108 (tgt := 33) (by decide) ?_
              exact pb_V.mono (by omega) (by omega) (ih33 _ (by omega) (max b (hts s * (x - lbL S9))) e m h R9 S9 H_ rfl hG (by rw [← hq, lbPop_y (show hg ≤ hts s from by omega)]) hD hB9 (fun s9 h9 => hst s9 (List.mem_cons_of_mem _ h9)) (by omega) (by omega) hFF ls (lv_sub hl [3, 4, 0, 5, 6] rfl))
            · have c75_ := of_decide_eq_true c75_
              have hR9 : R9 = [] := by rw [← List.length_eq_zero_iff, ← List.length_reverse]; exact c75_
              have hl9 : lbL S9 = 0 := by rw [hR9] at hB9; rw [hB9.nil]; rfl
              refine pb_ic C dX12_largestBelow_78 ?_
              refine pb_goto C dX12_largestBelow_79 (tgt := 94) (by decide) ?_
              refine pb_istore C dX12_largestBelow_94 hl (by decide) rfl fun ls hl => ?_
              have hl : lv_has ls 7 [(6, .int (iZ (0))), (5, .int (iZ ((((hts s) : Nat) : Int)))), (0, .ref (a)), (1, .ref (H0.size)), (2, .int (iZ (((b : Nat) : Int)))), (3, .int (iZ (((x : Nat) : Int)))), (4, .int (iZ (((hg : Nat) : Int))))] := hl
              refine pb_iload_n C dX12_largestBelow_96 rfl (lv_at hl 4 rfl) ?_
              refine pb_iload C dX12_largestBelow_97 (lv_at hl 1 rfl) ?_
              refine pb_iload_n C dX12_largestBelow_99 rfl (lv_at hl 5 rfl) ?_
              refine pb_iload C dX12_largestBelow_100 (lv_at hl 0 rfl) ?_
              refine pb_isub C dX12_largestBelow_102 ?_
              refine pb_eq (g2 := F0 m_ 103 ls [.int (iZ ((((x - lbL S9) : Nat) : Int))), .int (iZ ((((hts s) : Nat) : Int))), .int (iZ (((b : Nat) : Int)))]) (congrArg (fun z9 => F0 m_ 103 ls [.int (iZ z9), .int (iZ ((((hts s) : Nat) : Int))), .int (iZ (((b : Nat) : Int)))]) (show (((x : Nat) : Int) - 0) = (((x - lbL S9) : Nat) : Int) from (by omega))) ?_
              refine pb_imul C dX12_largestBelow_103 ?_
              have hpr : hts s * (x - lbL S9) ≤ 24 * 25 := Nat.mul_le_mul hhs (by omega)
              refine pb_mmax C (x := ((b : Nat) : Int)) (y := ((((hts s) * (x - lbL S9)) : Nat) : Int)) q1495 q171 q57 q172 hl.1 ⟨(Nat.le_of_ble_eq_true rfl), (Nat.le_of_ble_eq_true rfl)⟩ (by omega) (by omega) dX12_largestBelow_104 ?_
              refine pb_eq (g2 := F0 m_ 107 ls [.int (iZ ((((max b (hts s * (x - lbL S9))) : Nat) : Int)))]) (congrArg (fun z9 => F0 m_ 107 ls [.int (iZ z9)]) (show (max (((b : Nat) : Int)) (((((hts s) * (x - lbL S9)) : Nat) : Int))) = (((max b (hts s * (x - lbL S9))) : Nat) : Int) from (by omega))) ?_
              refine pb_istore_n C dX12_largestBelow_107 rfl hl (by decide) rfl fun ls hl => ?_
              have hl : lv_has ls 7 [(2, .int (iZ ((((max b (hts s * (x - lbL S9))) : Nat) : Int)))), (6, .int (iZ (0))), (5, .int (iZ ((((hts s) : Nat) : Int)))), (0, .ref (a)), (1, .ref (H0.size)), (3, .int (iZ (((x : Nat) : Int)))), (4, .int (iZ (((hg : Nat) : Int))))] := hl
              refine pb_goto C dX12_largestBelow_108 (tgt := 33) (by decide) ?_
              exact pb_V.mono (by omega) (by omega) (ih33 _ (by omega) (max b (hts s * (x - lbL S9))) e m h R9 S9 H_ rfl hG (by rw [← hq, lbPop_y (show hg ≤ hts s from by omega)]) hD hB9 (fun s9 h9 => hst s9 (List.mem_cons_of_mem _ h9)) (by omega) (by omega) hFF ls (lv_sub hl [3, 4, 0, 5, 6] rfl))
      refine pb_istore C dX12_largestBelow_31 hl (by decide) rfl fun ls hl => ?_
      have hl : lv_has ls 7 [(4, .int (iZ (((hg : Nat) : Int)))), (0, .ref (a)), (1, .ref (H0.size)), (2, .int (iZ (((b : Nat) : Int)))), (3, .int (iZ (((x : Nat) : Int))))] := hl
      exact pb_V.mono (by omega) (by omega) (L33 _ b e m h R S H rfl hG (by rw [← hS]) hD hB hst (by omega) (by omega) hFF ls (lv_sub hl [1, 2, 3, 4, 0] rfl))
    refine pb_iload_n C dX12_largestBelow_12 rfl (lv_at hl 3 rfl) ?_
    refine pb_bip C dX12_largestBelow_13 (by decide) ?_
    refine pb_icmp_gt C dX12_largestBelow_15 (x := ((x : Nat) : Int)) (y := 24) (tgt := 125) (by decide) (by omega) (by omega) (fun c15_ => ?_) (fun c15_ => ?_)
    · refine pb_iload_n C dX12_largestBelow_125 rfl (lv_at hl 2 rfl) ?_
      exact pb_iret C dX12_largestBelow_126 (⟨_, rfl, by rw [show 25 = x from by omega, ← hS], hFF⟩)
    · have hhx := hts24 x
      refine pb_iload_n C dX12_largestBelow_18 rfl (lv_at hl 3 rfl) ?_
      refine pb_bip C dX12_largestBelow_19 (by decide) ?_
      refine pb_icmp_ne C dX12_largestBelow_21 (x := ((x : Nat) : Int)) (y := 24) (tgt := 28) (by decide) (by omega) (by omega) (fun c21_ => ?_) (fun c21_ => ?_)
      · refine pb_aload_n C dX12_largestBelow_28 rfl (lv_at hl 0 rfl) ?_
        refine pb_iload_n C dX12_largestBelow_29 rfl (lv_at hl 3 rfl) ?_
        refine pb_iald C hA (i := ((x : Nat) : Int)) (v := .int (iZ ((((hts x) : Nat) : Int)))) (by omega) rfl dX12_largestBelow_30 ?_
        exact pb_V.mono (by omega) (by omega) (L31 (hts x) (if_neg (by omega)).symm (by omega) ls (lv_sub hl [0, 1, 2, 3] rfl))
      · refine pb_ic C dX12_largestBelow_24 ?_
        refine pb_goto C dX12_largestBelow_25 (tgt := 31) (by decide) ?_
        exact pb_V.mono (by omega) (by omega) (L31 0 (if_pos (by omega)).symm (by omega) ls (lv_sub hl [0, 1, 2, 3] rfl))
  refine pb_newE C in_J20 tyJ20 tyJ20_ok (ci := 18) rfl q1449 q1450 q90 (fs := [.null, .int (iZ (0)), .int (iZ (0))]) (by decide) (bc' := 34) (bs' := 2448) (by omega) (by omega) dX12_largestBelow_0 fun a1_ H1_ ha_ hn_ hN1_ => ?_
  have hs1_ : H1_.size = H0.size + 1 := hn_.1
  have hG := hG.kept (hn_.f.mono (fun _ _ _ => trivial))
  have hFF := hFF.tr (hn_.f.mono (fun _ _ _ => trivial))
  obtain rfl : a1_ = H0.size := by omega
  skip
  have hN := hN1_
  refine pb_dup C dX12_largestBelow_3 rfl ?_
  refine pb_go_v (bc' := 33) (bs' := 2431) (pb_runI (rest := [.ref (H0.size)]) C hG (met_J20_init l H0.size H0.size hzs (Nat.le_refl _) hN) q1451 q1452 q90 q1453 rfl hdJ20_init rfl hl.1 rfl (Nat.le_of_ble_eq_true rfl) ⟨(Nat.le_of_ble_eq_true rfl), (Nat.le_of_ble_eq_true rfl)⟩ dX12_largestBelow_4) (by omega) (by omega) (fun H_ hp_ => ?_)
  obtain ⟨hD, hF1⟩ := hp_
  have hs9 := hF1.1
  have hG := hG.kept (hF1.mono (fun q _ (hq : q < w.2.2.2) => show q ≠ _ from by omega))
  have hFF := hFF.tr (hF1.mono (fun q _ (hq : q < H0.size) => show q ≠ _ from by omega))
  have hze := hD.2.2.2.1.lt
  have hd17 : dqC 17 = 8 ∧ dqS 17 = 2406 := ⟨rfl, rfl⟩
  refine pb_astore_n C dX12_largestBelow_7 rfl hl (by decide) rfl fun ls hl => ?_
  have hl : lv_has ls 7 [(1, .ref (H0.size)), (0, .ref (a))] := hl
  refine pb_ic C dX12_largestBelow_8 ?_
  refine pb_istore_n C dX12_largestBelow_9 rfl hl (by decide) rfl fun ls hl => ?_
  have hl : lv_has ls 7 [(2, .int (iZ (0))), (1, .ref (H0.size)), (0, .ref (a))] := hl
  refine pb_ic C dX12_largestBelow_10 ?_
  refine pb_istore_n C dX12_largestBelow_11 rfl hl (by decide) rfl fun ls hl => ?_
  have hl : lv_has ls 7 [(3, .int (iZ (0))), (2, .int (iZ (0))), (1, .ref (H0.size)), (0, .ref (a))] := hl
  exact pb_V.mono (by omega) (by omega) (L12 _ 0 0 _ 17 0 ([]) ([]) H_ rfl hG (by omega) rfl hD trivial (fun s h9 => by cases h9) (Nat.le_refl 0) (by omega) hFF ls (lv_sub hl [3, 2, 1, 0] rfl))

set_option maxHeartbeats 1000000 in
theorem met_X12_largestRectangle {w : pb_W} (l : Launch) {H0 : Heap} (c : Nat) (P : Nat → Prop) (g : Nat → Nat) (hQ0 : Cq w H0 P c g) : pb_M w l yX12_largestRectangle cX12_largestRectangle 5 (some .int) 6 (1 + 24 * 35) (25 + 24 * 2451) [.ref (c)] H0 (pb_qi (fun v H1 => v = ((lrM g 24 : Nat) : Int) ∧ pb_F (fun q => q < H0.size) H0 H1)) := by
  refine pb_of (by decide +kernel) (Nat.le_of_ble_eq_true rfl) ?_
  intro p_ e_ s_ m_ ar_ bl_ me_ co_ ls C hh hG hl
  have hl : lv_has ls 5 [(0, .ref (c))] := hl
  have hzs := hG.1
  have hFF : pb_F (fun q => q < H0.size) H0 H0 := pb_F.rf
  have hQ0 : Cq w H0 (fun q => q < H0.size) c g := hQ0.mono (fun q h _ => h)
  have hcH : c < H0.size := by obtain ⟨r9, h1, h2⟩ := hQ0; exact h1
  have L9 : ∀ (n_ : Nat) (y b : Nat) (H : Heap), 24 - y = n_ → (pb_G w s_ H) → (y ≤ 24) → (b = lrM g y) → (b ≤ 600) → (pb_A w H H0.size 0 25 (pb_nf (lrH g y))) → (pb_F (fun q => q < H0.size) H0 H) → ∀ (ls : Array Slot), lv_has ls 5 [(0, .ref (c)), (1, .ref (H0.size)), (2, .int (iZ (((b : Nat) : Int)))), (3, .int (iZ (((y : Nat) : Int))))] → pb_V w.2.2.2 p_ l e_ (pb_rm 6 (1 + 24 * 35) (25 + 24 * 2451)) s_ m_ ar_ bl_ me_ co_ H ((24 - y) * 35) ((24 - y) * 2451) (pb_E w bl_ ar_ s_ (1 + 24 * 35) (25 + 24 * 2451) (pb_qi (fun v H1 => v = ((lrM g 24 : Nat) : Int) ∧ pb_F (fun q => q < H0.size) H0 H1))) (F0 m_ 9 ls []) := by
    intro n_
    induction n_ using Nat.strongRecOn with
    | _ n_ ih9 =>
    intro y b H hm_ hG hy hb hbb hA hFF ls hl
    have hQ := hQ0.kept hFF
    obtain ⟨fsq_, hQo⟩ := hQ.o
    have L18 : ∀ (n_ : Nat) (k : Nat) (H : Heap), 24 - k = n_ → (pb_G w s_ H) → (k ≤ 24) → (y < 24) → (pb_A w H H0.size 0 25 (pb_nf (lrK g y k))) → (pb_F (fun q => q < H0.size) H0 H) → ∀ (ls : Array Slot), lv_has ls 5 [(0, .ref (c)), (1, .ref (H0.size)), (2, .int (iZ (((b : Nat) : Int)))), (3, .int (iZ (((y : Nat) : Int)))), (4, .int (iZ (((k : Nat) : Int))))] → pb_V w.2.2.2 p_ l e_ (pb_rm 6 (1 + 24 * 35) (25 + 24 * 2451)) s_ m_ ar_ bl_ me_ co_ H ((24 - y) * 35) ((24 - y) * 2451) (pb_E w bl_ ar_ s_ (1 + 24 * 35) (25 + 24 * 2451) (pb_qi (fun v H1 => v = ((lrM g 24 : Nat) : Int) ∧ pb_F (fun q => q < H0.size) H0 H1))) (F0 m_ 18 ls []) := by
      intro n_
      induction n_ using Nat.strongRecOn with
      | _ n_ ih18 =>
      intro k H hm_ hG hk hy1 hA hFF ls hl
      have hQ := hQ0.kept hFF
      obtain ⟨fsq_, hQo⟩ := hQ.o
      have hlk : lrK g y k k ≤ y := by unfold lrK; rw [if_neg (Nat.lt_irrefl k)]; exact lrH_le g y k
      have L48 : ∀ (v : Nat), (v = if gcI g ((k : Nat) : Int) ((y : Nat) : Int) = true then lrH g y k + 1 else 0) → (k < 24) →  ∀ (ls : Array Slot), lv_has ls 5 [(0, .ref (c)), (1, .ref (H0.size)), (2, .int (iZ (((b : Nat) : Int)))), (3, .int (iZ (((y : Nat) : Int)))), (4, .int (iZ (((k : Nat) : Int))))] → pb_V w.2.2.2 p_ l e_ (pb_rm 6 (1 + 24 * 35) (25 + 24 * 2451)) s_ m_ ar_ bl_ me_ co_ H ((24 - y) * 35) ((24 - y) * 2451) (pb_E w bl_ ar_ s_ (1 + 24 * 35) (25 + 24 * 2451) (pb_qi (fun v H1 => v = ((lrM g 24 : Nat) : Int) ∧ pb_F (fun q => q < H0.size) H0 H1))) (F0 m_ 48 ls [.int (iZ (((v : Nat) : Int))), .int (iZ (((k : Nat) : Int))), .ref (H0.size)]) := by
        intro v hv hk1 ls hl
        refine pb_iast C hA (i := ((k : Nat) : Int)) (by omega) (by omega) dX12_largestRectangle_48 fun H1_ hu_ hA => ?_
        rw [pb_upN, Int.toNat_natCast, lrK_step hk1 hv] at hA
        have hG := hG.kept (hu_.z (by omega))
        have hs_H1_ := hu_.1
        have hQo := hQo.kept (hu_.2 _ (by omega))
        have hFF := hFF.tr (hu_.f.mono (fun q _ (hq : q < H0.size) => show q ≠ _ from by omega))
        refine pb_iinc C dX12_largestRectangle_49 hl (j := 4) (x := (((k : Nat) : Int))) rfl (by decide) rfl fun ls hl => ?_
        have hl : lv_has ls 5 [(4, .int (iZ ((((k + 1) : Nat) : Int)))), (0, .ref (c)), (1, .ref (H0.size)), (2, .int (iZ (((b : Nat) : Int)))), (3, .int (iZ (((y : Nat) : Int))))] := hl
        refine pb_goto C dX12_largestRectangle_52 (tgt := 18) (by decide) ?_
        exact pb_V.mono (by omega) (by omega) (ih18 _ (by omega) (k + 1) H1_ rfl hG (by omega) (by omega) hA hFF ls (lv_sub hl [1, 2, 3, 4, 0] rfl))
      refine pb_iload C dX12_largestRectangle_18 (lv_at hl 4 rfl) ?_
      refine pb_bip C dX12_largestRectangle_20 (by decide) ?_
      refine pb_icmp_ge C dX12_largestRectangle_22 (x := ((k : Nat) : Int)) (y := 24) (tgt := 55) (by decide) (by omega) (by omega) (fun c22_ => ?_) (fun c22_ => ?_)
      · rw [show k = 24 from by omega, lrK_24] at hA
        refine pb_iload_n C dX12_largestRectangle_55 rfl (lv_at hl 2 rfl) ?_
        refine pb_aload_n C dX12_largestRectangle_56 rfl (lv_at hl 1 rfl) ?_
        have hlb := lbS_le (hts := lrH g (y + 1)) (c := 24) (fun i => Nat.le_trans (lrH_le g (y + 1) i) (by omega)) 25 (Nat.le_refl _)
        refine pb_go_i (bc' := (24 - y) * 35 - 35) (bs' := (24 - y) * 2451 - 2451) (pb_runS (rest := [.int (iZ (((b : Nat) : Int)))]) C hG (met_X12_largestBelow l H0.size (lrH g (y + 1)) hA.b (fun i => Nat.le_trans (lrH_le g (y + 1) i) (by omega))) (lw_S q1446 q1447 q82 q1448) hdX12_largestBelow rfl hl.1 rfl (Nat.le_of_ble_eq_true rfl) ⟨(Nat.le_of_ble_eq_true rfl), (Nat.le_of_ble_eq_true rfl)⟩ dX12_largestRectangle_57) (by omega) (by omega) (fun z_ H_ hp_ => ?_)
        obtain ⟨rfl, hF1⟩ := hp_
        have hsz9 := hFF.1
        have hA := hA.kept (hF1.2 _ hA.lt hA.lt)
        have hG := hG.kept (hF1.mono (fun q _ (hq : q < w.2.2.2) => Nat.lt_of_lt_of_le hq hG.1))
        have hFF := hFF.tr (hF1.mono (fun q _ (hq : q < H0.size) => Nat.lt_of_lt_of_le hq hFF.1))
        refine pb_mmax C (x := ((b : Nat) : Int)) (y := (((lbS (lrH g (y + 1)) 25).2 : Nat) : Int)) q1495 q171 q57 q172 hl.1 ⟨(Nat.le_of_ble_eq_true rfl), (Nat.le_of_ble_eq_true rfl)⟩ (by omega) (by omega) dX12_largestRectangle_60 ?_
        refine pb_eq (g2 := F0 m_ 63 ls [.int (iZ ((((max b (lbS (lrH g (y + 1)) 25).2) : Nat) : Int)))]) (congrArg (fun z9 => F0 m_ 63 ls [.int (iZ z9)]) (show (max (((b : Nat) : Int)) ((((lbS (lrH g (y + 1)) 25).2 : Nat) : Int))) = (((max b (lbS (lrH g (y + 1)) 25).2) : Nat) : Int) from (by omega))) ?_
        refine pb_istore_n C dX12_largestRectangle_63 rfl hl (by decide) rfl fun ls hl => ?_
        have hl : lv_has ls 5 [(2, .int (iZ ((((max b (lbS (lrH g (y + 1)) 25).2) : Nat) : Int)))), (0, .ref (c)), (1, .ref (H0.size)), (3, .int (iZ (((y : Nat) : Int)))), (4, .int (iZ (((k : Nat) : Int))))] := hl
        refine pb_iinc C dX12_largestRectangle_64 hl (j := 3) (x := (((y : Nat) : Int))) rfl (by decide) rfl fun ls hl => ?_
        have hl : lv_has ls 5 [(3, .int (iZ ((((y + 1) : Nat) : Int)))), (2, .int (iZ ((((max b (lbS (lrH g (y + 1)) 25).2) : Nat) : Int)))), (0, .ref (c)), (1, .ref (H0.size)), (4, .int (iZ (((k : Nat) : Int))))] := hl
        refine pb_goto C dX12_largestRectangle_67 (tgt := 9) (by decide) ?_
        exact pb_V.mono (by omega) (by omega) (ih9 _ (by omega) (y + 1) (max b (lbS (lrH g (y + 1)) 25).2) H_ rfl hG (by omega) (by rw [lrM, ← hb]) (by omega) hA hFF ls (lv_sub hl [2, 3, 1, 0] rfl))
      · refine pb_aload_n C dX12_largestRectangle_25 rfl (lv_at hl 1 rfl) ?_
        refine pb_iload C dX12_largestRectangle_26 (lv_at hl 4 rfl) ?_
        refine pb_aload_n C dX12_largestRectangle_28 rfl (lv_at hl 0 rfl) ?_
        refine pb_iload C dX12_largestRectangle_29 (lv_at hl 4 rfl) ?_
        refine pb_iload_n C dX12_largestRectangle_31 rfl (lv_at hl 3 rfl) ?_
        refine pb_go_x (bc' := (24 - y) * 35) (bs' := (24 - y) * 2451) (pb_runV (rest := [.int (iZ (((k : Nat) : Int))), .ref (H0.size)]) C hG (met_X12_contains l c _ g hQ ((k : Nat) : Int) ((y : Nat) : Int) (by omega) (by omega)) hQo (ci := 11) rfl (lw_V q1033 q1034 q1035 q82 q1036) ⟨rfl, hdX12_contains⟩ rfl hl.1 rfl (Nat.le_of_ble_eq_true rfl) ⟨(Nat.le_of_ble_eq_true rfl), (Nat.le_of_ble_eq_true rfl)⟩ dX12_largestRectangle_32) (by omega) (by omega) ?_
        refine pb_ifB_eq C dX12_largestRectangle_35 (tgt := 47) (by decide) (fun c35_ => ?_) (fun c35_ => ?_)
        · refine pb_ic C dX12_largestRectangle_47 ?_
          exact pb_V.mono (by omega) (by omega) (L48 0 (if_neg (by rw [c35_]; exact Bool.false_ne_true)).symm (by omega) ls (lv_sub hl [0, 1, 2, 3, 4] rfl))
        · refine pb_aload_n C dX12_largestRectangle_38 rfl (lv_at hl 1 rfl) ?_
          refine pb_iload C dX12_largestRectangle_39 (lv_at hl 4 rfl) ?_
          refine pb_iald C hA.b (i := ((k : Nat) : Int)) (v := .int (iZ ((((lrH g y k) : Nat) : Int)))) (by omega) (by rw [Int.toNat_natCast]; exact congrArg (fun z : Nat => Value.int (iZ ((z : Nat) : Int))) (if_neg (Nat.lt_irrefl k))) dX12_largestRectangle_41 ?_
          refine pb_ic C dX12_largestRectangle_42 ?_
          refine pb_iadd C dX12_largestRectangle_43 ?_
          refine pb_goto C dX12_largestRectangle_44 (tgt := 48) (by decide) ?_
          exact pb_V.mono (by omega) (by omega) (L48 ((lrH g y k) + 1) (if_pos c35_).symm (by omega) ls (lv_sub hl [0, 1, 2, 3, 4] rfl))
    refine pb_iload_n C dX12_largestRectangle_9 rfl (lv_at hl 3 rfl) ?_
    refine pb_bip C dX12_largestRectangle_10 (by decide) ?_
    refine pb_icmp_ge C dX12_largestRectangle_12 (x := ((y : Nat) : Int)) (y := 24) (tgt := 70) (by decide) (by omega) (by omega) (fun c12_ => ?_) (fun c12_ => ?_)
    · refine pb_iload_n C dX12_largestRectangle_70 rfl (lv_at hl 2 rfl) ?_
      exact pb_iret C dX12_largestRectangle_71 (⟨_, rfl, by rw [hb, show 24 = y from by omega], hFF⟩)
    · refine pb_ic C dX12_largestRectangle_15 ?_
      refine pb_istore C dX12_largestRectangle_16 hl (by decide) rfl fun ls hl => ?_
      have hl : lv_has ls 5 [(4, .int (iZ (0))), (0, .ref (c)), (1, .ref (H0.size)), (2, .int (iZ (((b : Nat) : Int)))), (3, .int (iZ (((y : Nat) : Int))))] := hl
      exact pb_V.mono (by omega) (by omega) (L18 _ 0 H rfl hG (by omega) (by omega) (by rw [lrK_0]; exact hA) hFF ls (lv_sub hl [1, 2, 3, 4, 0] rfl))
  refine pb_bip C dX12_largestRectangle_0 (by decide) ?_
  refine pb_newaE C 0 (by decide) (atype := .int) rfl q417 (n := 25) (by omega) rfl (bc' := 1 + 24 * 35 - 1) (bs' := 25 + 24 * 2451 - 25) (by omega) (by omega) dX12_largestRectangle_2 fun a2_ H2_ ha_ hn_ hN2_ => ?_
  have hs2_ : H2_.size = H0.size + 1 := hn_.1
  have hG := hG.kept (hn_.f.mono (fun _ _ _ => trivial))
  have hFF := hFF.tr (hn_.f.mono (fun _ _ _ => trivial))
  obtain rfl : a2_ = H0.size := by omega
  skip
  have hA := hN2_
  have hA : pb_A w H2_ (H0.size) 0 25 (fun _ => .int (iZ (0))) := hA
  refine pb_astore_n C dX12_largestRectangle_4 rfl hl (by decide) rfl fun ls hl => ?_
  have hl : lv_has ls 5 [(1, .ref (H0.size)), (0, .ref (c))] := hl
  refine pb_ic C dX12_largestRectangle_5 ?_
  refine pb_istore_n C dX12_largestRectangle_6 rfl hl (by decide) rfl fun ls hl => ?_
  have hl : lv_has ls 5 [(2, .int (iZ (0))), (1, .ref (H0.size)), (0, .ref (c))] := hl
  refine pb_ic C dX12_largestRectangle_7 ?_
  refine pb_istore_n C dX12_largestRectangle_8 rfl hl (by decide) rfl fun ls hl => ?_
  have hl : lv_has ls 5 [(3, .int (iZ (0))), (2, .int (iZ (0))), (1, .ref (H0.size)), (0, .ref (c))] := hl
  exact pb_V.mono (by omega) (by omega) (L9 _ 0 0 H2_ rfl hG (by omega) rfl (by omega) hA hFF ls (lv_sub hl [3, 2, 1, 0] rfl))

set_option maxHeartbeats 1000000 in
theorem met_X12_largestSquare {w : pb_W} (l : Launch) {H0 : Heap} (c : Nat) (P : Nat → Prop) (g : Nat → Nat) (hQ0 : Cq w H0 P c g) : pb_M w l yX12_largestSquare cX12_largestSquare 8 (some .int) 6 (1) (25) [.ref (c)] H0 (pb_qi (fun v H1 => v = (((sqT g 24).2 : Nat) : Int) ∧ pb_F (fun q => q < H0.size) H0 H1)) := by
  refine pb_of (by decide +kernel) (Nat.le_of_ble_eq_true rfl) ?_
  intro p_ e_ s_ m_ ar_ bl_ me_ co_ ls C hh hG hl
  have hl : lv_has ls 8 [(0, .ref (c))] := hl
  have hzs := hG.1
  have hFF : pb_F (fun q => q < H0.size) H0 H0 := pb_F.rf
  have hQ0 : Cq w H0 (fun q => q < H0.size) c g := hQ0.mono (fun q h _ => h)
  have hcH : c < H0.size := by obtain ⟨r9, h1, h2⟩ := hQ0; exact h1
  have L9 : ∀ (n_ : Nat) (y b : Nat) (H : Heap), 24 - y = n_ → (pb_G w s_ H) → (y ≤ 24) → (b = (sqT g y).2) → (pb_A w H H0.size 0 25 (pb_nf (sqT g y).1)) → (pb_F (fun q => q < H0.size) H0 H) → ∀ (ls : Array Slot), lv_has ls 8 [(0, .ref (c)), (1, .ref (H0.size)), (2, .int (iZ (((b : Nat) : Int)))), (3, .int (iZ (((y : Nat) : Int))))] → pb_V w.2.2.2 p_ l e_ (pb_rm 6 (1) (25)) s_ m_ ar_ bl_ me_ co_ H (0) (0) (pb_E w bl_ ar_ s_ (1) (25) (pb_qi (fun v H1 => v = (((sqT g 24).2 : Nat) : Int) ∧ pb_F (fun q => q < H0.size) H0 H1))) (F0 m_ 9 ls []) := by
    intro n_
    induction n_ using Nat.strongRecOn with
    | _ n_ ih9 =>
    intro y b H hm_ hG hy hb hA hFF ls hl
    have hQ := hQ0.kept hFF
    obtain ⟨fsq_, hQo⟩ := hQ.o
    have hbd := sq_bd g y
    have L21 : ∀ (n_ : Nat) (k t co : Nat) (H : Heap), 24 - k = n_ → (pb_G w s_ H) → (k ≤ 24) → (y < 24) → (t = (sqW g y (sqT g y).1 (sqT g y).2 k).2.2) → (co = (sqW g y (sqT g y).1 (sqT g y).2 k).1) → (pb_A w H H0.size 0 25 (pb_nf (sqW g y (sqT g y).1 (sqT g y).2 k).2.1)) → (pb_F (fun q => q < H0.size) H0 H) → ∀ (ls : Array Slot), lv_has ls 8 [(0, .ref (c)), (1, .ref (H0.size)), (2, .int (iZ (((t : Nat) : Int)))), (3, .int (iZ (((y : Nat) : Int)))), (4, .int (iZ (((co : Nat) : Int)))), (5, .int (iZ ((((k + 1) : Nat) : Int))))] → pb_V w.2.2.2 p_ l e_ (pb_rm 6 (1) (25)) s_ m_ ar_ bl_ me_ co_ H (0) (0) (pb_E w bl_ ar_ s_ (1) (25) (pb_qi (fun v H1 => v = (((sqT g 24).2 : Nat) : Int) ∧ pb_F (fun q => q < H0.size) H0 H1))) (F0 m_ 21 ls []) := by
      intro n_
      induction n_ using Nat.strongRecOn with
      | _ n_ ih21 =>
      intro k t co H hm_ hG hk hy1 ht hco hA hFF ls hl
      have hQ := hQ0.kept hFF
      obtain ⟨fsq_, hQo⟩ := hQ.o
      obtain ⟨hr1, hr2, hr3, hr4⟩ := sq_row g (y := y) hbd.1 (show (sqT g y).2 ≤ y + 1 from by omega) k
      have hr5 := hr3 (k + 1)
      have hr6 := hr3 k
      have L75 : ∀ (v : Nat), (v = if gcI g ((k : Nat) : Int) ((y : Nat) : Int) = true then min co (min ((sqW g y (sqT g y).1 (sqT g y).2 k).2.1 (k + 1)) ((sqW g y (sqT g y).1 (sqT g y).2 k).2.1 k)) + 1 else 0) → (k < 24) →  ∀ (ls : Array Slot), lv_has ls 8 [(0, .ref (c)), (1, .ref (H0.size)), (2, .int (iZ (((t : Nat) : Int)))), (3, .int (iZ (((y : Nat) : Int)))), (5, .int (iZ ((((k + 1) : Nat) : Int)))), (6, .int (iZ (((((sqW g y (sqT g y).1 (sqT g y).2 k).2.1 (k + 1)) : Nat) : Int))))] → pb_V w.2.2.2 p_ l e_ (pb_rm 6 (1) (25)) s_ m_ ar_ bl_ me_ co_ H (0) (0) (pb_E w bl_ ar_ s_ (1) (25) (pb_qi (fun v H1 => v = (((sqT g 24).2 : Nat) : Int) ∧ pb_F (fun q => q < H0.size) H0 H1))) (F0 m_ 75 ls [.int (iZ (((v : Nat) : Int))), .int (iZ ((((k + 1) : Nat) : Int))), .ref (H0.size)]) := by
        intro v hv hk1 ls hl
        have hvb : v ≤ 600 := by rw [hv]; split <;> omega
        refine pb_iast C hA (i := (((k + 1) : Nat) : Int)) (by omega) (by omega) dX12_largestSquare_75 fun H1_ hu_ hA => ?_
        rw [pb_upN, Int.toNat_natCast] at hA
        have hG := hG.kept (hu_.z (by omega))
        have hs_H1_ := hu_.1
        have hQo := hQo.kept (hu_.2 _ (by omega))
        have hFF := hFF.tr (hu_.f.mono (fun q _ (hq : q < H0.size) => show q ≠ _ from by omega))
        refine pb_iload_n C dX12_largestSquare_76 rfl (lv_at hl 2 rfl) ?_
        refine pb_aload_n C dX12_largestSquare_77 rfl (lv_at hl 1 rfl) ?_
        refine pb_iload C dX12_largestSquare_78 (lv_at hl 4 rfl) ?_
        refine pb_iald C hA.b (i := (((k + 1) : Nat) : Int)) (v := .int (iZ (((v : Nat) : Int)))) (by omega) (by rw [Int.toNat_natCast]; exact congrArg (fun z : Nat => Value.int (iZ ((z : Nat) : Int))) (va_up_at _ _ _)) dX12_largestSquare_80 ?_
        refine pb_mmax C (x := ((t : Nat) : Int)) (y := ((v : Nat) : Int)) q1495 q171 q57 q172 hl.1 ⟨(Nat.le_of_ble_eq_true rfl), (Nat.le_of_ble_eq_true rfl)⟩ (by omega) (by omega) dX12_largestSquare_81 ?_
        refine pb_eq (g2 := F0 m_ 84 ls [.int (iZ ((((max t v) : Nat) : Int)))]) (congrArg (fun z9 => F0 m_ 84 ls [.int (iZ z9)]) (show (max (((t : Nat) : Int)) (((v : Nat) : Int))) = (((max t v) : Nat) : Int) from (by omega))) ?_
        refine pb_istore_n C dX12_largestSquare_84 rfl hl (by decide) rfl fun ls hl => ?_
        have hl : lv_has ls 8 [(2, .int (iZ ((((max t v) : Nat) : Int)))), (0, .ref (c)), (1, .ref (H0.size)), (3, .int (iZ (((y : Nat) : Int)))), (5, .int (iZ ((((k + 1) : Nat) : Int)))), (6, .int (iZ (((((sqW g y (sqT g y).1 (sqT g y).2 k).2.1 (k + 1)) : Nat) : Int))))] := hl
        refine pb_iload C dX12_largestSquare_85 (lv_at hl 5 rfl) ?_
        refine pb_istore C dX12_largestSquare_87 hl (by decide) rfl fun ls hl => ?_
        have hl : lv_has ls 8 [(4, .int (iZ (((((sqW g y (sqT g y).1 (sqT g y).2 k).2.1 (k + 1)) : Nat) : Int)))), (2, .int (iZ ((((max t v) : Nat) : Int)))), (0, .ref (c)), (1, .ref (H0.size)), (3, .int (iZ (((y : Nat) : Int)))), (5, .int (iZ ((((k + 1) : Nat) : Int)))), (6, .int (iZ (((((sqW g y (sqT g y).1 (sqT g y).2 k).2.1 (k + 1)) : Nat) : Int))))] := hl
        refine pb_iinc C dX12_largestSquare_89 hl (j := 5) (x := ((((k + 1) : Nat) : Int))) rfl (by decide) rfl fun ls hl => ?_
        have hl : lv_has ls 8 [(5, .int (iZ (((((k + 1) + 1) : Nat) : Int)))), (4, .int (iZ (((((sqW g y (sqT g y).1 (sqT g y).2 k).2.1 (k + 1)) : Nat) : Int)))), (2, .int (iZ ((((max t v) : Nat) : Int)))), (0, .ref (c)), (1, .ref (H0.size)), (3, .int (iZ (((y : Nat) : Int)))), (6, .int (iZ (((((sqW g y (sqT g y).1 (sqT g y).2 k).2.1 (k + 1)) : Nat) : Int))))] := hl
        refine pb_goto C dX12_largestSquare_92 (tgt := 21) (by decide) ?_
        exact pb_V.mono (by omega) (by omega) (ih21 _ (by omega) (k + 1) (max t v) ((sqW g y (sqT g y).1 (sqT g y).2 k).2.1 (k + 1)) H1_ rfl hG (by omega) (by omega) (by rw [sqW, sqQ, ← ht, ← hco, ← hv]) (by rw [sqW, sqQ]) (by rw [sqW, sqQ, ← hco, ← hv]; exact hA) hFF ls (lv_sub hl [3, 4, 2, 5, 1, 0] rfl))
      refine pb_iload C dX12_largestSquare_21 (lv_at hl 5 rfl) ?_
      refine pb_bip C dX12_largestSquare_23 (by decide) ?_
      refine pb_icmp_gt C dX12_largestSquare_25 (x := (((k + 1) : Nat) : Int)) (y := 24) (tgt := 95) (by decide) (by omega) (by omega) (fun c25_ => ?_) (fun c25_ => ?_)
      · refine pb_iinc C dX12_largestSquare_95 hl (j := 3) (x := (((y : Nat) : Int))) rfl (by decide) rfl fun ls hl => ?_
        have hl : lv_has ls 8 [(3, .int (iZ ((((y + 1) : Nat) : Int)))), (0, .ref (c)), (1, .ref (H0.size)), (2, .int (iZ (((t : Nat) : Int)))), (4, .int (iZ (((co : Nat) : Int)))), (5, .int (iZ ((((k + 1) : Nat) : Int))))] := hl
        refine pb_goto C dX12_largestSquare_98 (tgt := 9) (by decide) ?_
        exact pb_V.mono (by omega) (by omega) (ih9 _ (by omega) (y + 1) t H rfl hG (by omega) (by rw [sqT, show 24 = k from by omega]; exact ht) (by rw [sqT, show 24 = k from by omega]; exact hA) hFF ls (lv_sub hl [1, 2, 3, 0] rfl))
      · refine pb_aload_n C dX12_largestSquare_28 rfl (lv_at hl 1 rfl) ?_
        refine pb_iload C dX12_largestSquare_29 (lv_at hl 5 rfl) ?_
        refine pb_iald C hA.b (i := (((k + 1) : Nat) : Int)) (v := .int (iZ (((((sqW g y (sqT g y).1 (sqT g y).2 k).2.1 ((k + 1))) : Nat) : Int)))) (by omega) rfl dX12_largestSquare_31 ?_
        refine pb_istore C dX12_largestSquare_32 hl (by decide) rfl fun ls hl => ?_
        have hl : lv_has ls 8 [(6, .int (iZ (((((sqW g y (sqT g y).1 (sqT g y).2 k).2.1 ((k + 1))) : Nat) : Int)))), (0, .ref (c)), (1, .ref (H0.size)), (2, .int (iZ (((t : Nat) : Int)))), (3, .int (iZ (((y : Nat) : Int)))), (4, .int (iZ (((co : Nat) : Int)))), (5, .int (iZ ((((k + 1) : Nat) : Int))))] := hl
        refine pb_iload C dX12_largestSquare_34 (lv_at hl 5 rfl) ?_
        refine pb_iload C dX12_largestSquare_36 (lv_at hl 0 rfl) ?_
        refine pb_aload_n C dX12_largestSquare_38 rfl (lv_at hl 2 rfl) ?_
        refine pb_iload C dX12_largestSquare_39 (lv_at hl 6 rfl) ?_
        refine pb_ic C dX12_largestSquare_41 ?_
        refine pb_isub C dX12_largestSquare_42 ?_
        refine pb_eq (g2 := F0 m_ 43 ls [.int (iZ (((k : Nat) : Int))), .ref (H0.size), .int (iZ (((((sqW g y (sqT g y).1 (sqT g y).2 k).2.1 ((k + 1))) : Nat) : Int))), .int (iZ (((co : Nat) : Int)))]) (congrArg (fun z9 => F0 m_ 43 ls [.int (iZ z9), .ref (H0.size), .int (iZ (((((sqW g y (sqT g y).1 (sqT g y).2 k).2.1 ((k + 1))) : Nat) : Int))), .int (iZ (((co : Nat) : Int)))]) (show ((((k + 1) : Nat) : Int) - 1) = ((k : Nat) : Int) from (by omega))) ?_
        refine pb_iald C hA.b (i := ((k : Nat) : Int)) (v := .int (iZ (((((sqW g y (sqT g y).1 (sqT g y).2 k).2.1 k) : Nat) : Int)))) (by omega) rfl dX12_largestSquare_43 ?_
        refine pb_mmin C (x := ((((sqW g y (sqT g y).1 (sqT g y).2 k).2.1 ((k + 1))) : Nat) : Int)) (y := ((((sqW g y (sqT g y).1 (sqT g y).2 k).2.1 k) : Nat) : Int)) q1540 q220 q57 q221 hl.1 ⟨(Nat.le_of_ble_eq_true rfl), (Nat.le_of_ble_eq_true rfl)⟩ (by omega) (by omega) dX12_largestSquare_44 ?_
        refine pb_eq (g2 := F0 m_ 47 ls [.int (iZ ((((min ((sqW g y (sqT g y).1 (sqT g y).2 k).2.1 (k + 1)) ((sqW g y (sqT g y).1 (sqT g y).2 k).2.1 k)) : Nat) : Int))), .int (iZ (((co : Nat) : Int)))]) (congrArg (fun z9 => F0 m_ 47 ls [.int (iZ z9), .int (iZ (((co : Nat) : Int)))]) (show (min (((((sqW g y (sqT g y).1 (sqT g y).2 k).2.1 ((k + 1))) : Nat) : Int)) (((((sqW g y (sqT g y).1 (sqT g y).2 k).2.1 k) : Nat) : Int))) = (((min ((sqW g y (sqT g y).1 (sqT g y).2 k).2.1 (k + 1)) ((sqW g y (sqT g y).1 (sqT g y).2 k).2.1 k)) : Nat) : Int) from (by omega))) ?_
        refine pb_mmin C (x := ((co : Nat) : Int)) (y := (((min ((sqW g y (sqT g y).1 (sqT g y).2 k).2.1 (k + 1)) ((sqW g y (sqT g y).1 (sqT g y).2 k).2.1 k)) : Nat) : Int)) q1540 q220 q57 q221 hl.1 ⟨(Nat.le_of_ble_eq_true rfl), (Nat.le_of_ble_eq_true rfl)⟩ (by omega) (by omega) dX12_largestSquare_47 ?_
        refine pb_eq (g2 := F0 m_ 50 ls [.int (iZ ((((min co (min ((sqW g y (sqT g y).1 (sqT g y).2 k).2.1 (k + 1)) ((sqW g y (sqT g y).1 (sqT g y).2 k).2.1 k))) : Nat) : Int)))]) (congrArg (fun z9 => F0 m_ 50 ls [.int (iZ z9)]) (show (min (((co : Nat) : Int)) ((((min ((sqW g y (sqT g y).1 (sqT g y).2 k).2.1 (k + 1)) ((sqW g y (sqT g y).1 (sqT g y).2 k).2.1 k)) : Nat) : Int))) = (((min co (min ((sqW g y (sqT g y).1 (sqT g y).2 k).2.1 (k + 1)) ((sqW g y (sqT g y).1 (sqT g y).2 k).2.1 k))) : Nat) : Int) from (by omega))) ?_
        refine pb_ic C dX12_largestSquare_50 ?_
        refine pb_iadd C dX12_largestSquare_51 ?_
        refine pb_istore C dX12_largestSquare_52 hl (by decide) rfl fun ls hl => ?_
        have hl : lv_has ls 8 [(7, .int (iZ (((((min co (min ((sqW g y (sqT g y).1 (sqT g y).2 k).2.1 (k + 1)) ((sqW g y (sqT g y).1 (sqT g y).2 k).2.1 k))) + 1) : Nat) : Int)))), (6, .int (iZ (((((sqW g y (sqT g y).1 (sqT g y).2 k).2.1 ((k + 1))) : Nat) : Int)))), (0, .ref (c)), (1, .ref (H0.size)), (2, .int (iZ (((t : Nat) : Int)))), (3, .int (iZ (((y : Nat) : Int)))), (4, .int (iZ (((co : Nat) : Int)))), (5, .int (iZ ((((k + 1) : Nat) : Int))))] := hl
        refine pb_aload_n C dX12_largestSquare_54 rfl (lv_at hl 3 rfl) ?_
        refine pb_iload C dX12_largestSquare_55 (lv_at hl 7 rfl) ?_
        refine pb_aload_n C dX12_largestSquare_57 rfl (lv_at hl 2 rfl) ?_
        refine pb_iload C dX12_largestSquare_58 (lv_at hl 7 rfl) ?_
        refine pb_ic C dX12_largestSquare_60 ?_
        refine pb_isub C dX12_largestSquare_61 ?_
        refine pb_eq (g2 := F0 m_ 62 ls [.int (iZ (((k : Nat) : Int))), .ref (c), .int (iZ ((((k + 1) : Nat) : Int))), .ref (H0.size)]) (congrArg (fun z9 => F0 m_ 62 ls [.int (iZ z9), .ref (c), .int (iZ ((((k + 1) : Nat) : Int))), .ref (H0.size)]) (show ((((k + 1) : Nat) : Int) - 1) = ((k : Nat) : Int) from (by omega))) ?_
        refine pb_iload_n C dX12_largestSquare_62 rfl (lv_at hl 5 rfl) ?_
        refine pb_go_x (bc' := 0) (bs' := 0) (pb_runV (rest := [.int (iZ ((((k + 1) : Nat) : Int))), .ref (H0.size)]) C hG (met_X12_contains l c _ g hQ ((k : Nat) : Int) ((y : Nat) : Int) (by omega) (by omega)) hQo (ci := 11) rfl (lw_V q1033 q1034 q1035 q82 q1036) ⟨rfl, hdX12_contains⟩ rfl hl.1 rfl (Nat.le_of_ble_eq_true rfl) ⟨(Nat.le_of_ble_eq_true rfl), (Nat.le_of_ble_eq_true rfl)⟩ dX12_largestSquare_63) (by omega) (by omega) ?_
        refine pb_ifB_eq C dX12_largestSquare_66 (tgt := 74) (by decide) (fun c66_ => ?_) (fun c66_ => ?_)
        · refine pb_ic C dX12_largestSquare_74 ?_
          exact pb_V.mono (by omega) (by omega) (L75 0 (if_neg (by rw [c66_]; exact Bool.false_ne_true)).symm (by omega) ls (lv_sub hl [2, 3, 4, 5, 7, 1] rfl))
        · refine pb_iload C dX12_largestSquare_69 (lv_at hl 0 rfl) ?_
          refine pb_goto C dX12_largestSquare_71 (tgt := 75) (by decide) ?_
          exact pb_V.mono (by omega) (by omega) (L75 ((min co (min ((sqW g y (sqT g y).1 (sqT g y).2 k).2.1 (k + 1)) ((sqW g y (sqT g y).1 (sqT g y).2 k).2.1 k))) + 1) (if_pos c66_).symm (by omega) ls (lv_sub hl [2, 3, 4, 5, 7, 1] rfl))
    refine pb_iload_n C dX12_largestSquare_9 rfl (lv_at hl 3 rfl) ?_
    refine pb_bip C dX12_largestSquare_10 (by decide) ?_
    refine pb_icmp_ge C dX12_largestSquare_12 (x := ((y : Nat) : Int)) (y := 24) (tgt := 101) (by decide) (by omega) (by omega) (fun c12_ => ?_) (fun c12_ => ?_)
    · refine pb_iload_n C dX12_largestSquare_101 rfl (lv_at hl 2 rfl) ?_
      exact pb_iret C dX12_largestSquare_102 (⟨_, rfl, by rw [hb, show 24 = y from by omega], hFF⟩)
    · refine pb_ic C dX12_largestSquare_15 ?_
      refine pb_istore C dX12_largestSquare_16 hl (by decide) rfl fun ls hl => ?_
      have hl : lv_has ls 8 [(4, .int (iZ (0))), (0, .ref (c)), (1, .ref (H0.size)), (2, .int (iZ (((b : Nat) : Int)))), (3, .int (iZ (((y : Nat) : Int))))] := hl
      refine pb_ic C dX12_largestSquare_18 ?_
      refine pb_istore C dX12_largestSquare_19 hl (by decide) rfl fun ls hl => ?_
      have hl : lv_has ls 8 [(5, .int (iZ (1))), (4, .int (iZ (0))), (0, .ref (c)), (1, .ref (H0.size)), (2, .int (iZ (((b : Nat) : Int)))), (3, .int (iZ (((y : Nat) : Int))))] := hl
      exact pb_V.mono (by omega) (by omega) (L21 _ 0 b 0 H rfl hG (by omega) (by omega) hb rfl hA hFF ls (lv_sub hl [2, 3, 4, 5, 1, 0] rfl))
  refine pb_bip C dX12_largestSquare_0 (by decide) ?_
  refine pb_newaE C 0 (by decide) (atype := .int) rfl q417 (n := 25) (by omega) rfl (bc' := 0) (bs' := 0) (by omega) (by omega) dX12_largestSquare_2 fun a2_ H2_ ha_ hn_ hN2_ => ?_
  have hs2_ : H2_.size = H0.size + 1 := hn_.1
  have hG := hG.kept (hn_.f.mono (fun _ _ _ => trivial))
  have hFF := hFF.tr (hn_.f.mono (fun _ _ _ => trivial))
  obtain rfl : a2_ = H0.size := by omega
  skip
  have hA := hN2_
  have hA : pb_A w H2_ (H0.size) 0 25 (fun _ => .int (iZ (0))) := hA
  refine pb_astore_n C dX12_largestSquare_4 rfl hl (by decide) rfl fun ls hl => ?_
  have hl : lv_has ls 8 [(1, .ref (H0.size)), (0, .ref (c))] := hl
  refine pb_ic C dX12_largestSquare_5 ?_
  refine pb_istore_n C dX12_largestSquare_6 rfl hl (by decide) rfl fun ls hl => ?_
  have hl : lv_has ls 8 [(2, .int (iZ (0))), (1, .ref (H0.size)), (0, .ref (c))] := hl
  refine pb_ic C dX12_largestSquare_7 ?_
  refine pb_istore_n C dX12_largestSquare_8 rfl hl (by decide) rfl fun ls hl => ?_
  have hl : lv_has ls 8 [(3, .int (iZ (0))), (2, .int (iZ (0))), (1, .ref (H0.size)), (0, .ref (c))] := hl
  exact pb_V.mono (by omega) (by omega) (L9 _ 0 0 H2_ rfl hG (by omega) rfl hA hFF ls (lv_sub hl [3, 2, 1, 0] rfl))

