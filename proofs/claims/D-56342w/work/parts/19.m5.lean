set_option maxRecDepth 100000
set_option maxHeartbeats 1000000 in
theorem met_X3_spreads {w : pb_W} (l : Launch) {H0 : Heap} (o : Nat) (S : mS) (hM : MW w H0 o S) (c : Bool) (hT : ∀ y, y < 26 → S.2.1 3 y < 67108864) (hs : fsub (S.2.1 2) (S.2.1 3)) : pb_M w l yX3_spreads cX3_spreads 9 none 0 (0) (0) [.ref (o), .int (iZ ((bI (c))))] H0 (pb_qv (fun H1 => ∃ P, FL c (S.2.1 3) (S.2.1 2) P ∧ MW w H1 o (mB S 2 P) ∧ mF o H0 H1)) := by
  refine pb_of (by decide +kernel) (Nat.le_of_ble_eq_true rfl) ?_
  intro p_ e_ s_ m_ ar_ bl_ me_ co_ ls C hh hG hl
  have hl : lv_has ls 9 [(0, .ref (o)), (1, .int (iZ ((bI (c)))))] := hl
  have hM0 := hM; obtain ⟨hz, hO, hA1, hA2, hA3, hA4, hA5, hA6, hA7, hA8, hA9, hA10, hA11, hA12⟩ := hM0
  have hF : mF o H0 H0 := mF.rf
  have L2 : ∀ (n_ : Nat) (P : Nat → Nat) (m : Bool) (H : Heap), 2 * (700 - ftot P) + (bI m).toNat = n_ → (pb_G w s_ H) → (MW w H o (mB S 2 P)) → (mF o H0 H) → (FO c (S.2.1 3) (S.2.1 2) P) → (m = false → fcl c (S.2.1 3) P) → ∀ (ls : Array Slot), lv_has ls 9 [(0, .ref (o)), (1, .int (iZ ((bI (c))))), (2, .int (iZ ((bI (m)))))] → pb_V w.2.2.2 p_ l e_ (pb_rm 0 (0) (0)) s_ m_ ar_ bl_ me_ co_ H (0) (0) (pb_E w bl_ ar_ s_ (0) (0) (pb_qv (fun H1 => ∃ P, FL c (S.2.1 3) (S.2.1 2) P ∧ MW w H1 o (mB S 2 P) ∧ mF o H0 H1))) (F0 m_ 2 ls []) := by
    intro n_
    induction n_ using Nat.strongRecOn with
    | _ n_ ih2 =>
    intro P m H hm_ hG hM hF hO_ hcl ls hl
    have hM0 := hM; obtain ⟨hz, hO, hA1, hA2, hA3, hA4, hA5, hA6, hA7, hA8, hA9, hA10, hA11, hA12⟩ := hM0
    have hO : pb_O w H o 2 [.int (iZ ((S.1 0))), .int (iZ ((S.1 1))), .ref (o + 1), .ref (o + 2), .ref (o + 3), .ref (o + 4), .ref (o + 5), .ref (o + 6), .ref (o + 7), .ref (o + 8), .ref (o + 9), .ref (o + 10), .ref (o + 11), .ref (o + 12), .int (iZ ((S.1 2))), .int (iZ ((S.1 3)))] := hO
    have hA1 : pb_A w H (o + 1) 0 192 (pb_nf (S.2.1 0)) := hA1
    have hA2 : pb_A w H (o + 2) 0 24 (pb_nf (S.2.1 1)) := hA2
    have hA3 : pb_A w H (o + 3) 0 26 (pb_nf (P)) := hA3
    have hA4 : pb_A w H (o + 4) 0 26 (pb_nf (S.2.1 3)) := hA4
    have hA5 : pb_A w H (o + 5) 0 40 (pb_zf (S.2.2 0)) := hA5
    have hA6 : pb_A w H (o + 6) 0 40 (pb_zf (S.2.2 1)) := hA6
    have hA7 : pb_A w H (o + 7) 0 576 (pb_zf (S.2.2 2)) := hA7
    have hA8 : pb_A w H (o + 8) 0 1300 (pb_zf (S.2.2 3)) := hA8
    have hA9 : pb_A w H (o + 9) 0 1300 (pb_zf (S.2.2 4)) := hA9
    have hA10 : pb_A w H (o + 10) 0 400 (pb_zf (S.2.2 5)) := hA10
    have hA11 : pb_A w H (o + 11) 0 400 (pb_zf (S.2.2 6)) := hA11
    have hA12 : pb_A w H (o + 12) 0 625 (pb_nf (S.2.1 4)) := hA12
    have L10 : ∀ (n_ : Nat) (k : Nat) (P1 : Nat → Nat) (m1 : Bool) (H : Heap), 26 - k = n_ → (pb_G w s_ H) → ((bI m).toNat = 1) → (k ≤ 26) → (MW w H o (mB S 2 P1)) → (mF o H0 H) → (FI c (S.2.1 3) (S.2.1 2) (ftot P) k P1 m1) → ∀ (ls : Array Slot), lv_has ls 9 [(0, .ref (o)), (1, .int (iZ ((bI (c))))), (2, .int (iZ ((bI (m1))))), (3, .int (iZ (((k : Nat) : Int))))] → pb_V w.2.2.2 p_ l e_ (pb_rm 0 (0) (0)) s_ m_ ar_ bl_ me_ co_ H (0) (0) (pb_E w bl_ ar_ s_ (0) (0) (pb_qv (fun H1 => ∃ P, FL c (S.2.1 3) (S.2.1 2) P ∧ MW w H1 o (mB S 2 P) ∧ mF o H0 H1))) (F0 m_ 10 ls []) := by
      intro n_
      induction n_ using Nat.strongRecOn with
      | _ n_ ih10 =>
      intro k P1 m1 H hm_ hG hm1 hk hM hF hI ls hl
      have hM0 := hM; obtain ⟨hz, hO, hA1, hA2, hA3, hA4, hA5, hA6, hA7, hA8, hA9, hA10, hA11, hA12⟩ := hM0
      have hO : pb_O w H o 2 [.int (iZ ((S.1 0))), .int (iZ ((S.1 1))), .ref (o + 1), .ref (o + 2), .ref (o + 3), .ref (o + 4), .ref (o + 5), .ref (o + 6), .ref (o + 7), .ref (o + 8), .ref (o + 9), .ref (o + 10), .ref (o + 11), .ref (o + 12), .int (iZ ((S.1 2))), .int (iZ ((S.1 3)))] := hO
      have hA1 : pb_A w H (o + 1) 0 192 (pb_nf (S.2.1 0)) := hA1
      have hA2 : pb_A w H (o + 2) 0 24 (pb_nf (S.2.1 1)) := hA2
      have hA3 : pb_A w H (o + 3) 0 26 (pb_nf (P1)) := hA3
      have hA4 : pb_A w H (o + 4) 0 26 (pb_nf (S.2.1 3)) := hA4
      have hA5 : pb_A w H (o + 5) 0 40 (pb_zf (S.2.2 0)) := hA5
      have hA6 : pb_A w H (o + 6) 0 40 (pb_zf (S.2.2 1)) := hA6
      have hA7 : pb_A w H (o + 7) 0 576 (pb_zf (S.2.2 2)) := hA7
      have hA8 : pb_A w H (o + 8) 0 1300 (pb_zf (S.2.2 3)) := hA8
      have hA9 : pb_A w H (o + 9) 0 1300 (pb_zf (S.2.2 4)) := hA9
      have hA10 : pb_A w H (o + 10) 0 400 (pb_zf (S.2.2 5)) := hA10
      have hA11 : pb_A w H (o + 11) 0 400 (pb_zf (S.2.2 6)) := hA11
      have hA12 : pb_A w H (o + 12) 0 625 (pb_nf (S.2.1 4)) := hA12
      have L106 : (k < 26) →  ∀ (ls : Array Slot), lv_has ls 9 [(0, .ref (o)), (1, .int (iZ ((bI (c))))), (2, .int (iZ ((bI (m1))))), (3, .int (iZ (((k : Nat) : Int)))), (6, .int (iZ ((((P1 k) : Nat) : Int)))), (7, .int (iZ ((((nrP c P1 k) : Nat) : Int))))] → pb_V w.2.2.2 p_ l e_ (pb_rm 0 (0) (0)) s_ m_ ar_ bl_ me_ co_ H (0) (0) (pb_E w bl_ ar_ s_ (0) (0) (pb_qv (fun H1 => ∃ P, FL c (S.2.1 3) (S.2.1 2) P ∧ MW w H1 o (mB S 2 P) ∧ mF o H0 H1))) (F0 m_ 106 ls []) := by
        intro  hk26 ls hl
        have hlt_ : ∀ y, y < 26 → P1 y < 67108864 := fun y hy => FO_lt hT hI.1 hy
        have hown := hlt_ k hk26
        have hba := nBA_lt hlt_ (y := k) hk26
        refine pb_iload C dX3_spreads_106 (lv_at hl 5 rfl) ?_
        refine pb_aload_n C dX3_spreads_108 rfl (lv_at hl 0 rfl) ?_
        refine pb_get C in_X3 hO.r (ci := 2) rfl 5 (by decide) q1742 (fun _ h9 => h9) (v := .ref (o + 4)) rfl dX3_spreads_109 ?_
        refine pb_iload_n C dX3_spreads_112 rfl (lv_at hl 3 rfl) ?_
        refine pb_iald C hA4.b (i := ((k : Nat) : Int)) (v := .int (iZ ((((S.2.1 3 k) : Nat) : Int)))) (by omega) rfl dX3_spreads_113 ?_
        refine pb_iand C dX3_spreads_114 (x := (nrP c P1 k)) (y := (S.2.1 3 k)) ?_
        refine pb_istore C dX3_spreads_115 hl (by decide) rfl fun ls hl => ?_
        have hl : lv_has ls 9 [(8, .int (iZ (((((nrP c P1 k) &&& (S.2.1 3 k)) : Nat) : Int)))), (0, .ref (o)), (1, .int (iZ ((bI (c))))), (2, .int (iZ ((bI (m1))))), (3, .int (iZ (((k : Nat) : Int)))), (6, .int (iZ ((((P1 k) : Nat) : Int)))), (7, .int (iZ ((((nrP c P1 k) : Nat) : Int))))] := hl
        refine pb_iload_n C dX3_spreads_117 rfl (lv_at hl 3 rfl) ?_
        refine pb_iload C dX3_spreads_118 (lv_at hl 0 rfl) ?_
        refine pb_iload C dX3_spreads_120 (lv_at hl 5 rfl) ?_
        refine pb_icmp_eq C dX3_spreads_122 (x := ((((nrP c P1 k) &&& (S.2.1 3 k)) : Nat) : Int)) (y := (((P1 k) : Nat) : Int)) (tgt := 129) (by decide) (by have := Nat.and_le_left (n := nrP c P1 k) (m := S.2.1 3 k); have h9 := Nat.and_le_right (n := nrP c P1 k) (m := S.2.1 3 k); have := hT k hk26; omega) (by omega) (fun c122_ => ?_) (fun c122_ => ?_)
        · refine pb_ic C dX3_spreads_129 ?_
          refine pb_eq (g2 := F0 m_ 130 ls [.int (iZ ((bI (decide (¬ (nrP c P1 k &&& S.2.1 3 k) = P1 k))))), .int (iZ ((bI (m1))))]) (congrArg (fun z9 => F0 m_ 130 ls [.int (iZ z9), .int (iZ ((bI (m1))))]) (show 0 = (bI (decide (¬ (nrP c P1 k &&& S.2.1 3 k) = P1 k))) from (bI_f (decide_eq_false (not_not_intro (Int.ofNat.inj c122_)))).symm)) ?_
          refine pb_iorB C dX3_spreads_130 ?_
          refine pb_istore_n C dX3_spreads_131 rfl hl (by decide) rfl fun ls hl => ?_
          have hl : lv_has ls 9 [(2, .int (iZ ((bI ((m1 || decide (¬ (nrP c P1 k &&& S.2.1 3 k) = P1 k))))))), (8, .int (iZ (((((nrP c P1 k) &&& (S.2.1 3 k)) : Nat) : Int)))), (0, .ref (o)), (1, .int (iZ ((bI (c))))), (3, .int (iZ (((k : Nat) : Int)))), (6, .int (iZ ((((P1 k) : Nat) : Int)))), (7, .int (iZ ((((nrP c P1 k) : Nat) : Int))))] := hl
          refine pb_aload_n C dX3_spreads_132 rfl (lv_at hl 2 rfl) ?_
          refine pb_get C in_X3 hO.r (ci := 2) rfl 4 (by decide) q1741 (fun _ h9 => h9) (v := .ref (o + 3)) rfl dX3_spreads_133 ?_
          refine pb_iload_n C dX3_spreads_136 rfl (lv_at hl 4 rfl) ?_
          refine pb_iload C dX3_spreads_137 (lv_at hl 1 rfl) ?_
          refine pb_iast C hA3 (i := ((k : Nat) : Int)) (by omega) (by omega) dX3_spreads_139 fun H1_ hu_ hA3 => ?_
          rw [pb_upN, Int.toNat_natCast] at hA3
          have hG := hG.kept (hu_.z (by omega))
          have hO := hO.kept (hu_.2 _ (by omega))
          have hA1 := hA1.kept (hu_.2 _ (by omega))
          have hA2 := hA2.kept (hu_.2 _ (by omega))
          have hA4 := hA4.kept (hu_.2 _ (by omega))
          have hA5 := hA5.kept (hu_.2 _ (by omega))
          have hA6 := hA6.kept (hu_.2 _ (by omega))
          have hA7 := hA7.kept (hu_.2 _ (by omega))
          have hA8 := hA8.kept (hu_.2 _ (by omega))
          have hA9 := hA9.kept (hu_.2 _ (by omega))
          have hA10 := hA10.kept (hu_.2 _ (by omega))
          have hA11 := hA11.kept (hu_.2 _ (by omega))
          have hA12 := hA12.kept (hu_.2 _ (by omega))
          have hF := hF.up hu_ (by omega)
          refine pb_iinc C dX3_spreads_140 hl (j := 4) (x := (((k : Nat) : Int))) rfl (by decide) rfl fun ls hl => ?_
          have hl : lv_has ls 9 [(3, .int (iZ ((((k + 1) : Nat) : Int)))), (2, .int (iZ ((bI ((m1 || decide (¬ (nrP c P1 k &&& S.2.1 3 k) = P1 k))))))), (8, .int (iZ (((((nrP c P1 k) &&& (S.2.1 3 k)) : Nat) : Int)))), (0, .ref (o)), (1, .int (iZ ((bI (c))))), (6, .int (iZ ((((P1 k) : Nat) : Int)))), (7, .int (iZ ((((nrP c P1 k) : Nat) : Int))))] := hl
          refine pb_goto C dX3_spreads_143 (tgt := 10) (by decide) ?_
          exact pb_V.mono (by omega) (by omega) (ih10 _ (by omega) (k + 1) (va_up P1 k (nrP c P1 k &&& S.2.1 3 k)) (m1 || decide (¬ (nrP c P1 k &&& S.2.1 3 k) = P1 k)) H1_ rfl hG (by omega) (by omega) ⟨hz, hO, hA1, hA2, hA3, hA4, hA5, hA6, hA7, hA8, hA9, hA10, hA11, hA12⟩ hF (FI_step hT hI (by omega)) ls (lv_sub hl [3, 4, 1, 0] rfl))
        · refine pb_ic C dX3_spreads_125 ?_
          refine pb_goto C dX3_spreads_126 (tgt := 130) (by decide) ?_
          refine pb_eq (g2 := F0 m_ 130 ls [.int (iZ ((bI (decide (¬ (nrP c P1 k &&& S.2.1 3 k) = P1 k))))), .int (iZ ((bI (m1))))]) (congrArg (fun z9 => F0 m_ 130 ls [.int (iZ z9), .int (iZ ((bI (m1))))]) (show 1 = (bI (decide (¬ (nrP c P1 k &&& S.2.1 3 k) = P1 k))) from (bI_t (decide_eq_true (show ¬ (nrP c P1 k &&& S.2.1 3 k) = P1 k from fun z => c122_ (congrArg (fun n : Nat => (n : Int)) z)))).symm)) ?_
          refine pb_iorB C dX3_spreads_130 ?_
          refine pb_istore_n C dX3_spreads_131 rfl hl (by decide) rfl fun ls hl => ?_
          have hl : lv_has ls 9 [(2, .int (iZ ((bI ((m1 || decide (¬ (nrP c P1 k &&& S.2.1 3 k) = P1 k))))))), (8, .int (iZ (((((nrP c P1 k) &&& (S.2.1 3 k)) : Nat) : Int)))), (0, .ref (o)), (1, .int (iZ ((bI (c))))), (3, .int (iZ (((k : Nat) : Int)))), (6, .int (iZ ((((P1 k) : Nat) : Int)))), (7, .int (iZ ((((nrP c P1 k) : Nat) : Int))))] := hl
          refine pb_aload_n C dX3_spreads_132 rfl (lv_at hl 2 rfl) ?_
          refine pb_get C in_X3 hO.r (ci := 2) rfl 4 (by decide) q1741 (fun _ h9 => h9) (v := .ref (o + 3)) rfl dX3_spreads_133 ?_
          refine pb_iload_n C dX3_spreads_136 rfl (lv_at hl 4 rfl) ?_
          refine pb_iload C dX3_spreads_137 (lv_at hl 1 rfl) ?_
          refine pb_iast C hA3 (i := ((k : Nat) : Int)) (by omega) (by omega) dX3_spreads_139 fun H2_ hu_ hA3 => ?_
          rw [pb_upN, Int.toNat_natCast] at hA3
          have hG := hG.kept (hu_.z (by omega))
          have hO := hO.kept (hu_.2 _ (by omega))
          have hA1 := hA1.kept (hu_.2 _ (by omega))
          have hA2 := hA2.kept (hu_.2 _ (by omega))
          have hA4 := hA4.kept (hu_.2 _ (by omega))
          have hA5 := hA5.kept (hu_.2 _ (by omega))
          have hA6 := hA6.kept (hu_.2 _ (by omega))
          have hA7 := hA7.kept (hu_.2 _ (by omega))
          have hA8 := hA8.kept (hu_.2 _ (by omega))
          have hA9 := hA9.kept (hu_.2 _ (by omega))
          have hA10 := hA10.kept (hu_.2 _ (by omega))
          have hA11 := hA11.kept (hu_.2 _ (by omega))
          have hA12 := hA12.kept (hu_.2 _ (by omega))
          have hF := hF.up hu_ (by omega)
          refine pb_iinc C dX3_spreads_140 hl (j := 4) (x := (((k : Nat) : Int))) rfl (by decide) rfl fun ls hl => ?_
          have hl : lv_has ls 9 [(3, .int (iZ ((((k + 1) : Nat) : Int)))), (2, .int (iZ ((bI ((m1 || decide (¬ (nrP c P1 k &&& S.2.1 3 k) = P1 k))))))), (8, .int (iZ (((((nrP c P1 k) &&& (S.2.1 3 k)) : Nat) : Int)))), (0, .ref (o)), (1, .int (iZ ((bI (c))))), (6, .int (iZ ((((P1 k) : Nat) : Int)))), (7, .int (iZ ((((nrP c P1 k) : Nat) : Int))))] := hl
          refine pb_goto C dX3_spreads_143 (tgt := 10) (by decide) ?_
          exact pb_V.mono (by omega) (by omega) (ih10 _ (by omega) (k + 1) (va_up P1 k (nrP c P1 k &&& S.2.1 3 k)) (m1 || decide (¬ (nrP c P1 k &&& S.2.1 3 k) = P1 k)) H2_ rfl hG (by omega) (by omega) ⟨hz, hO, hA1, hA2, hA3, hA4, hA5, hA6, hA7, hA8, hA9, hA10, hA11, hA12⟩ hF (FI_step hT hI (by omega)) ls (lv_sub hl [3, 4, 1, 0] rfl))
      have L54 : (k < 26) →  ∀ (ls : Array Slot), lv_has ls 9 [(0, .ref (o)), (1, .int (iZ ((bI (c))))), (2, .int (iZ ((bI (m1))))), (3, .int (iZ (((k : Nat) : Int)))), (4, .int (iZ ((((nB P1 k) : Nat) : Int)))), (5, .int (iZ ((((nA P1 k) : Nat) : Int))))] → pb_V w.2.2.2 p_ l e_ (pb_rm 0 (0) (0)) s_ m_ ar_ bl_ me_ co_ H (0) (0) (pb_E w bl_ ar_ s_ (0) (0) (pb_qv (fun H1 => ∃ P, FL c (S.2.1 3) (S.2.1 2) P ∧ MW w H1 o (mB S 2 P) ∧ mF o H0 H1))) (F0 m_ 54 ls []) := by
        intro  hk26 ls hl
        have hlt_ : ∀ y, y < 26 → P1 y < 67108864 := fun y hy => FO_lt hT hI.1 hy
        have hown := hlt_ k hk26
        have hba := nBA_lt hlt_ (y := k) hk26
        refine pb_aload_n C dX3_spreads_54 rfl (lv_at hl 0 rfl) ?_
        refine pb_get C in_X3 hO.r (ci := 2) rfl 4 (by decide) q1741 (fun _ h9 => h9) (v := .ref (o + 3)) rfl dX3_spreads_55 ?_
        refine pb_iload_n C dX3_spreads_58 rfl (lv_at hl 3 rfl) ?_
        refine pb_iald C hA3.b (i := ((k : Nat) : Int)) (v := .int (iZ ((((P1 k) : Nat) : Int)))) (by omega) rfl dX3_spreads_59 ?_
        refine pb_istore C dX3_spreads_60 hl (by decide) rfl fun ls hl => ?_
        have hl : lv_has ls 9 [(6, .int (iZ ((((P1 k) : Nat) : Int)))), (0, .ref (o)), (1, .int (iZ ((bI (c))))), (2, .int (iZ ((bI (m1))))), (3, .int (iZ (((k : Nat) : Int)))), (4, .int (iZ ((((nB P1 k) : Nat) : Int)))), (5, .int (iZ ((((nA P1 k) : Nat) : Int))))] := hl
        refine pb_iload C dX3_spreads_62 (lv_at hl 0 rfl) ?_
        refine pb_iload C dX3_spreads_64 (lv_at hl 0 rfl) ?_
        refine pb_ic C dX3_spreads_66 ?_
        refine pb_ishl C dX3_spreads_67 (x := (P1 k)) (y := 1) (by omega) ?_
        refine pb_ior C dX3_spreads_68 (x := (P1 k)) (y := ((P1 k) <<< 1)) ?_
        refine pb_iload C dX3_spreads_69 (lv_at hl 0 rfl) ?_
        refine pb_ic C dX3_spreads_71 ?_
        refine pb_ishr C dX3_spreads_72 (x := (P1 k)) (y := 1) (by omega) (by omega) ?_
        refine pb_ior C dX3_spreads_73 (x := ((P1 k) ||| ((P1 k) <<< 1))) (y := ((P1 k) >>> 1)) ?_
        refine pb_iload C dX3_spreads_74 (lv_at hl 5 rfl) ?_
        refine pb_ior C dX3_spreads_76 (x := (((P1 k) ||| ((P1 k) <<< 1)) ||| ((P1 k) >>> 1))) (y := (nB P1 k)) ?_
        refine pb_iload C dX3_spreads_77 (lv_at hl 6 rfl) ?_
        refine pb_ior C dX3_spreads_79 (x := ((((P1 k) ||| ((P1 k) <<< 1)) ||| ((P1 k) >>> 1)) ||| (nB P1 k))) (y := (nA P1 k)) ?_
        refine pb_eq (g2 := F0 m_ 80 ls [.int (iZ ((((nb (P1 k) (nB P1 k) (nA P1 k)) : Nat) : Int)))]) (congrArg (fun z9 => F0 m_ 80 ls [.int (iZ z9)]) (show (((((((P1 k) ||| ((P1 k) <<< 1)) ||| ((P1 k) >>> 1)) ||| (nB P1 k)) ||| (nA P1 k)) : Nat) : Int) = (((nb (P1 k) (nB P1 k) (nA P1 k)) : Nat) : Int) from rfl)) ?_
        refine pb_istore C dX3_spreads_80 hl (by decide) rfl fun ls hl => ?_
        have hl : lv_has ls 9 [(7, .int (iZ ((((nb (P1 k) (nB P1 k) (nA P1 k)) : Nat) : Int)))), (6, .int (iZ ((((P1 k) : Nat) : Int)))), (0, .ref (o)), (1, .int (iZ ((bI (c))))), (2, .int (iZ ((bI (m1))))), (3, .int (iZ (((k : Nat) : Int)))), (4, .int (iZ ((((nB P1 k) : Nat) : Int)))), (5, .int (iZ ((((nA P1 k) : Nat) : Int))))] := hl
        refine pb_iload_n C dX3_spreads_82 rfl (lv_at hl 3 rfl) ?_
        refine pb_ifB_eq C dX3_spreads_83 (tgt := 106) (by decide) (fun c83_ => ?_) (fun c83_ => ?_)
        · subst c83_
          exact pb_V.mono (by omega) (by omega) (L106  (by omega) ls (lv_sub hl [2, 3, 4, 5, 1, 0] rfl))
        · refine pb_iload C dX3_spreads_86 (lv_at hl 0 rfl) ?_
          refine pb_iload C dX3_spreads_88 (lv_at hl 6 rfl) ?_
          refine pb_iload C dX3_spreads_90 (lv_at hl 7 rfl) ?_
          refine pb_ior C dX3_spreads_92 (x := (nB P1 k)) (y := (nA P1 k)) ?_
          refine pb_ic C dX3_spreads_93 ?_
          refine pb_ishl C dX3_spreads_94 (x := ((nB P1 k) ||| (nA P1 k))) (y := 1) (by omega) ?_
          refine pb_iload C dX3_spreads_95 (lv_at hl 6 rfl) ?_
          refine pb_iload C dX3_spreads_97 (lv_at hl 7 rfl) ?_
          refine pb_ior C dX3_spreads_99 (x := (nB P1 k)) (y := (nA P1 k)) ?_
          refine pb_ic C dX3_spreads_100 ?_
          refine pb_ishr C dX3_spreads_101 (x := ((nB P1 k) ||| (nA P1 k))) (y := 1) (by omega) (by omega) ?_
          refine pb_ior C dX3_spreads_102 (x := (((nB P1 k) ||| (nA P1 k)) <<< 1)) (y := (((nB P1 k) ||| (nA P1 k)) >>> 1)) ?_
          refine pb_ior C dX3_spreads_103 (x := (nb (P1 k) (nB P1 k) (nA P1 k))) (y := ((((nB P1 k) ||| (nA P1 k)) <<< 1) ||| (((nB P1 k) ||| (nA P1 k)) >>> 1))) ?_
          refine pb_eq (g2 := F0 m_ 104 ls [.int (iZ ((((nrP c P1 k) : Nat) : Int)))]) (congrArg (fun z9 => F0 m_ 104 ls [.int (iZ z9)]) (show ((((nb (P1 k) (nB P1 k) (nA P1 k)) ||| ((((nB P1 k) ||| (nA P1 k)) <<< 1) ||| (((nB P1 k) ||| (nA P1 k)) >>> 1))) : Nat) : Int) = (((nrP c P1 k) : Nat) : Int) from (by rw [nrP, nr, if_pos c83_]))) ?_
          refine pb_istore C dX3_spreads_104 hl (by decide) rfl fun ls hl => ?_
          have hl : lv_has ls 9 [(7, .int (iZ ((((nrP c P1 k) : Nat) : Int)))), (6, .int (iZ ((((P1 k) : Nat) : Int)))), (0, .ref (o)), (1, .int (iZ ((bI (c))))), (2, .int (iZ ((bI (m1))))), (3, .int (iZ (((k : Nat) : Int)))), (4, .int (iZ ((((nB P1 k) : Nat) : Int)))), (5, .int (iZ ((((nA P1 k) : Nat) : Int))))] := hl
          exact pb_V.mono (by omega) (by omega) (L106  (by omega) ls (lv_sub hl [2, 3, 4, 5, 1, 0] rfl))
      have L34 : (k < 26) →  ∀ (ls : Array Slot), lv_has ls 9 [(0, .ref (o)), (1, .int (iZ ((bI (c))))), (2, .int (iZ ((bI (m1))))), (3, .int (iZ (((k : Nat) : Int)))), (4, .int (iZ ((((nB P1 k) : Nat) : Int))))] → pb_V w.2.2.2 p_ l e_ (pb_rm 0 (0) (0)) s_ m_ ar_ bl_ me_ co_ H (0) (0) (pb_E w bl_ ar_ s_ (0) (0) (pb_qv (fun H1 => ∃ P, FL c (S.2.1 3) (S.2.1 2) P ∧ MW w H1 o (mB S 2 P) ∧ mF o H0 H1))) (F0 m_ 34 ls []) := by
        intro  hk26 ls hl
        have hlt_ : ∀ y, y < 26 → P1 y < 67108864 := fun y hy => FO_lt hT hI.1 hy
        have hown := hlt_ k hk26
        have hba := nBA_lt hlt_ (y := k) hk26
        refine pb_iload_n C dX3_spreads_34 rfl (lv_at hl 3 rfl) ?_
        refine pb_bip C dX3_spreads_35 (by decide) ?_
        refine pb_icmp_ge C dX3_spreads_37 (x := ((k : Nat) : Int)) (y := 25) (tgt := 51) (by decide) (by omega) (by omega) (fun c37_ => ?_) (fun c37_ => ?_)
        · refine pb_ic C dX3_spreads_51 ?_
          refine pb_eq (g2 := F0 m_ 52 ls [.int (iZ ((((nA P1 k) : Nat) : Int)))]) (congrArg (fun z9 => F0 m_ 52 ls [.int (iZ z9)]) (show 0 = (((nA P1 k) : Nat) : Int) from (by unfold nA; first | rw [if_pos (by omega)] | (rw [if_neg (by omega)]; rfl)))) ?_
          refine pb_istore C dX3_spreads_52 hl (by decide) rfl fun ls hl => ?_
          have hl : lv_has ls 9 [(5, .int (iZ ((((nA P1 k) : Nat) : Int)))), (0, .ref (o)), (1, .int (iZ ((bI (c))))), (2, .int (iZ ((bI (m1))))), (3, .int (iZ (((k : Nat) : Int)))), (4, .int (iZ ((((nB P1 k) : Nat) : Int))))] := hl
          exact pb_V.mono (by omega) (by omega) (L54  (by omega) ls (lv_sub hl [1, 2, 3, 4, 5, 0] rfl))
        · refine pb_aload_n C dX3_spreads_40 rfl (lv_at hl 0 rfl) ?_
          refine pb_get C in_X3 hO.r (ci := 2) rfl 4 (by decide) q1741 (fun _ h9 => h9) (v := .ref (o + 3)) rfl dX3_spreads_41 ?_
          refine pb_iload_n C dX3_spreads_44 rfl (lv_at hl 3 rfl) ?_
          refine pb_ic C dX3_spreads_45 ?_
          refine pb_iadd C dX3_spreads_46 ?_
          refine pb_iald C hA3.b (i := (((k + 1) : Nat) : Int)) (v := .int (iZ ((((P1 ((k + 1))) : Nat) : Int)))) (by omega) rfl dX3_spreads_47 ?_
          refine pb_goto C dX3_spreads_48 (tgt := 52) (by decide) ?_
          refine pb_eq (g2 := F0 m_ 52 ls [.int (iZ ((((nA P1 k) : Nat) : Int)))]) (congrArg (fun z9 => F0 m_ 52 ls [.int (iZ z9)]) (show (((P1 ((k + 1))) : Nat) : Int) = (((nA P1 k) : Nat) : Int) from (by unfold nA; first | rw [if_pos (by omega)] | (rw [if_neg (by omega)]; rfl)))) ?_
          refine pb_istore C dX3_spreads_52 hl (by decide) rfl fun ls hl => ?_
          have hl : lv_has ls 9 [(5, .int (iZ ((((nA P1 k) : Nat) : Int)))), (0, .ref (o)), (1, .int (iZ ((bI (c))))), (2, .int (iZ ((bI (m1))))), (3, .int (iZ (((k : Nat) : Int)))), (4, .int (iZ ((((nB P1 k) : Nat) : Int))))] := hl
          exact pb_V.mono (by omega) (by omega) (L54  (by omega) ls (lv_sub hl [1, 2, 3, 4, 5, 0] rfl))
      refine pb_iload_n C dX3_spreads_10 rfl (lv_at hl 3 rfl) ?_
      refine pb_bip C dX3_spreads_11 (by decide) ?_
      refine pb_icmp_ge C dX3_spreads_13 (x := ((k : Nat) : Int)) (y := 26) (tgt := 146) (by decide) (by omega) (by omega) (fun c13_ => ?_) (fun c13_ => ?_)
      · obtain rfl : k = 26 := by omega
        have hms : (bI m1).toNat = 0 ∧ ftot P1 = ftot P ∨ (bI m1).toNat = 1 ∧ ftot P < ftot P1 := by
            cases m1 with
            | false => exact Or.inl ⟨rfl, hI.2.2.1 rfl⟩
            | true => exact Or.inr ⟨rfl, hI.2.2.2 rfl⟩
        have hle1 := ftot_le P1
        have hle := ftot_le P
        refine pb_goto C dX3_spreads_146 (tgt := 2) (by decide) ?_
        exact pb_V.mono (by omega) (by omega) (ih2 _ (by omega) P1 m1 H rfl hG hM hF hI.1 (fun h => hI.2.1 h) ls (lv_sub hl [0, 1, 2] rfl))
      · have hlt_ : ∀ y, y < 26 → P1 y < 67108864 := fun y hy => FO_lt hT hI.1 hy
        have hown := hlt_ k (by omega)
        have hba := nBA_lt hlt_ (y := k) (by omega)
        refine pb_iload_n C dX3_spreads_16 rfl (lv_at hl 3 rfl) ?_
        refine pb_if_le C dX3_spreads_17 (x := ((k : Nat) : Int)) (tgt := 31) (by decide) (by omega) (fun c17_ => ?_) (fun c17_ => ?_)
        · refine pb_ic C dX3_spreads_31 ?_
          refine pb_eq (g2 := F0 m_ 32 ls [.int (iZ ((((nB P1 k) : Nat) : Int)))]) (congrArg (fun z9 => F0 m_ 32 ls [.int (iZ z9)]) (show 0 = (((nB P1 k) : Nat) : Int) from (by unfold nB; first | rw [if_pos (by omega)] | (rw [if_neg (by omega)]; rfl)))) ?_
          refine pb_istore C dX3_spreads_32 hl (by decide) rfl fun ls hl => ?_
          have hl : lv_has ls 9 [(4, .int (iZ ((((nB P1 k) : Nat) : Int)))), (0, .ref (o)), (1, .int (iZ ((bI (c))))), (2, .int (iZ ((bI (m1))))), (3, .int (iZ (((k : Nat) : Int))))] := hl
          exact pb_V.mono (by omega) (by omega) (L34  (by omega) ls (lv_sub hl [1, 2, 3, 4, 0] rfl))
        · refine pb_aload_n C dX3_spreads_20 rfl (lv_at hl 0 rfl) ?_
          refine pb_get C in_X3 hO.r (ci := 2) rfl 4 (by decide) q1741 (fun _ h9 => h9) (v := .ref (o + 3)) rfl dX3_spreads_21 ?_
          refine pb_iload_n C dX3_spreads_24 rfl (lv_at hl 3 rfl) ?_
          refine pb_ic C dX3_spreads_25 ?_
          refine pb_isub C dX3_spreads_26 ?_
          refine pb_eq (g2 := F0 m_ 27 ls [.int (iZ ((((k - 1) : Nat) : Int))), .ref (o + 3)]) (congrArg (fun z9 => F0 m_ 27 ls [.int (iZ z9), .ref (o + 3)]) (show (((k : Nat) : Int) - 1) = (((k - 1) : Nat) : Int) from (by omega))) ?_
          refine pb_iald C hA3.b (i := (((k - 1) : Nat) : Int)) (v := .int (iZ ((((P1 ((k - 1))) : Nat) : Int)))) (by omega) rfl dX3_spreads_27 ?_
          refine pb_goto C dX3_spreads_28 (tgt := 32) (by decide) ?_
          refine pb_eq (g2 := F0 m_ 32 ls [.int (iZ ((((nB P1 k) : Nat) : Int)))]) (congrArg (fun z9 => F0 m_ 32 ls [.int (iZ z9)]) (show (((P1 ((k - 1))) : Nat) : Int) = (((nB P1 k) : Nat) : Int) from (by unfold nB; first | rw [if_pos (by omega)] | (rw [if_neg (by omega)]; rfl)))) ?_
          refine pb_istore C dX3_spreads_32 hl (by decide) rfl fun ls hl => ?_
          have hl : lv_has ls 9 [(4, .int (iZ ((((nB P1 k) : Nat) : Int)))), (0, .ref (o)), (1, .int (iZ ((bI (c))))), (2, .int (iZ ((bI (m1))))), (3, .int (iZ (((k : Nat) : Int))))] := hl
          exact pb_V.mono (by omega) (by omega) (L34  (by omega) ls (lv_sub hl [1, 2, 3, 4, 0] rfl))
    refine pb_iload_n C dX3_spreads_2 rfl (lv_at hl 2 rfl) ?_
    refine pb_ifB_eq C dX3_spreads_3 (tgt := 149) (by decide) (fun c3_ => ?_) (fun c3_ => ?_)
    · exact pb_vret C dX3_spreads_149 (⟨rfl, P, ⟨hO_, hcl c3_⟩, hM, hF⟩)
    · have hm1 : (bI m).toNat = 1 := by rw [c3_]; rfl
      refine pb_ic C dX3_spreads_6 ?_
      refine pb_istore_n C dX3_spreads_7 rfl hl (by decide) rfl fun ls hl => ?_
      have hl : lv_has ls 9 [(2, .int (iZ (0))), (0, .ref (o)), (1, .int (iZ ((bI (c)))))] := hl
      refine pb_ic C dX3_spreads_8 ?_
      refine pb_istore_n C dX3_spreads_9 rfl hl (by decide) rfl fun ls hl => ?_
      have hl : lv_has ls 9 [(3, .int (iZ (0))), (2, .int (iZ (0))), (0, .ref (o)), (1, .int (iZ ((bI (c)))))] := hl
      exact pb_V.mono (by omega) (by omega) (L10 _ 0 P false H rfl hG (by omega) (by omega) hM hF (FI_0 hO_) ls (lv_sub hl [2, 3, 1, 0] rfl))
  refine pb_ic C dX3_spreads_0 ?_
  refine pb_istore_n C dX3_spreads_1 rfl hl (by decide) rfl fun ls hl => ?_
  have hl : lv_has ls 9 [(2, .int (iZ (1))), (0, .ref (o)), (1, .int (iZ ((bI (c)))))] := hl
  exact pb_V.mono (by omega) (by omega) (L2 _ (S.2.1 2) true H0 rfl hG (by rw [mB_self]; exact hM) hF (FO_0 hs) (fun h => by cases h) ls (lv_sub hl [1, 2, 0] rfl))

set_option maxHeartbeats 1000000 in
theorem met_X3_empties {w : pb_W} (l : Launch) {H0 : Heap} (o : Nat) (S : mS) (hM : MW w H0 o S)  : pb_M w l yX3_empties cX3_empties 2 none 0 (0) (0) [.ref (o)] H0 (pb_qv (fun H1 => MW w H1 o (mB S 2 (mdR (fun i => 0) (S.2.1 2) 26)) ∧ mF o H0 H1)) := by
  refine pb_of (by decide +kernel) (Nat.le_of_ble_eq_true rfl) ?_
  intro p_ e_ s_ m_ ar_ bl_ me_ co_ ls C hh hG hl
  have hl : lv_has ls 2 [(0, .ref (o))] := hl
  have hM0 := hM; obtain ⟨hz, hO, hA1, hA2, hA3, hA4, hA5, hA6, hA7, hA8, hA9, hA10, hA11, hA12⟩ := hM0
  have hF : mF o H0 H0 := mF.rf
  have L2 : ∀ (n_ : Nat) (k : Nat) (H : Heap), 26 - k = n_ → (pb_G w s_ H) → (k ≤ 26) → (MW w H o (mB S 2 (mdR (fun i => 0) (S.2.1 2) k))) → (mF o H0 H) → ∀ (ls : Array Slot), lv_has ls 2 [(0, .ref (o)), (1, .int (iZ (((k : Nat) : Int))))] → pb_V w.2.2.2 p_ l e_ (pb_rm 0 (0) (0)) s_ m_ ar_ bl_ me_ co_ H (0) (0) (pb_E w bl_ ar_ s_ (0) (0) (pb_qv (fun H1 => MW w H1 o (mB S 2 (mdR (fun i => 0) (S.2.1 2) 26)) ∧ mF o H0 H1))) (F0 m_ 2 ls []) := by
    intro n_
    induction n_ using Nat.strongRecOn with
    | _ n_ ih2 =>
    intro k H hm_ hG hk hM hF ls hl
    have hM0 := hM; obtain ⟨hz, hO, hA1, hA2, hA3, hA4, hA5, hA6, hA7, hA8, hA9, hA10, hA11, hA12⟩ := hM0
    have hO : pb_O w H o 2 [.int (iZ ((S.1 0))), .int (iZ ((S.1 1))), .ref (o + 1), .ref (o + 2), .ref (o + 3), .ref (o + 4), .ref (o + 5), .ref (o + 6), .ref (o + 7), .ref (o + 8), .ref (o + 9), .ref (o + 10), .ref (o + 11), .ref (o + 12), .int (iZ ((S.1 2))), .int (iZ ((S.1 3)))] := hO
    have hA1 : pb_A w H (o + 1) 0 192 (pb_nf (S.2.1 0)) := hA1
    have hA2 : pb_A w H (o + 2) 0 24 (pb_nf (S.2.1 1)) := hA2
    have hA3 : pb_A w H (o + 3) 0 26 (pb_nf (mdR (fun i => 0) (S.2.1 2) k)) := hA3
    have hA4 : pb_A w H (o + 4) 0 26 (pb_nf (S.2.1 3)) := hA4
    have hA5 : pb_A w H (o + 5) 0 40 (pb_zf (S.2.2 0)) := hA5
    have hA6 : pb_A w H (o + 6) 0 40 (pb_zf (S.2.2 1)) := hA6
    have hA7 : pb_A w H (o + 7) 0 576 (pb_zf (S.2.2 2)) := hA7
    have hA8 : pb_A w H (o + 8) 0 1300 (pb_zf (S.2.2 3)) := hA8
    have hA9 : pb_A w H (o + 9) 0 1300 (pb_zf (S.2.2 4)) := hA9
    have hA10 : pb_A w H (o + 10) 0 400 (pb_zf (S.2.2 5)) := hA10
    have hA11 : pb_A w H (o + 11) 0 400 (pb_zf (S.2.2 6)) := hA11
    have hA12 : pb_A w H (o + 12) 0 625 (pb_nf (S.2.1 4)) := hA12
    refine pb_iload_n C dX3_empties_2 rfl (lv_at hl 1 rfl) ?_
    refine pb_bip C dX3_empties_3 (by decide) ?_
    refine pb_icmp_ge C dX3_empties_5 (x := ((k : Nat) : Int)) (y := 26) (tgt := 21) (by decide) (by omega) (by omega) (fun c5_ => ?_) (fun c5_ => ?_)
    · obtain rfl : k = 26 := by omega
      exact pb_vret C dX3_empties_21 (⟨rfl, hM, hF⟩)
    · refine pb_aload_n C dX3_empties_8 rfl (lv_at hl 0 rfl) ?_
      refine pb_get C in_X3 hO.r (ci := 2) rfl 4 (by decide) q1741 (fun _ h9 => h9) (v := .ref (o + 3)) rfl dX3_empties_9 ?_
      refine pb_iload_n C dX3_empties_12 rfl (lv_at hl 1 rfl) ?_
      refine pb_ic C dX3_empties_13 ?_
      refine pb_iast C hA3 (i := ((k : Nat) : Int)) (by omega) (by omega) dX3_empties_14 fun H1_ hu_ hA3 => ?_
      rw [show (Value.int (iZ 0)) = Value.int (iZ ((0 : Nat) : Int)) from rfl] at hA3
      rw [pb_upN, Int.toNat_natCast, mdR_step (fun i => 0) _ k (v := 0) rfl] at hA3
      have hG := hG.kept (hu_.z (by omega))
      have hO := hO.kept (hu_.2 _ (by omega))
      have hA1 := hA1.kept (hu_.2 _ (by omega))
      have hA2 := hA2.kept (hu_.2 _ (by omega))
      have hA4 := hA4.kept (hu_.2 _ (by omega))
      have hA5 := hA5.kept (hu_.2 _ (by omega))
      have hA6 := hA6.kept (hu_.2 _ (by omega))
      have hA7 := hA7.kept (hu_.2 _ (by omega))
      have hA8 := hA8.kept (hu_.2 _ (by omega))
      have hA9 := hA9.kept (hu_.2 _ (by omega))
      have hA10 := hA10.kept (hu_.2 _ (by omega))
      have hA11 := hA11.kept (hu_.2 _ (by omega))
      have hA12 := hA12.kept (hu_.2 _ (by omega))
      have hF := hF.up hu_ (by omega)
      refine pb_iinc C dX3_empties_15 hl (j := 1) (x := (((k : Nat) : Int))) rfl (by decide) rfl fun ls hl => ?_
      have hl : lv_has ls 2 [(1, .int (iZ ((((k + 1) : Nat) : Int)))), (0, .ref (o))] := hl
      refine pb_goto C dX3_empties_18 (tgt := 2) (by decide) ?_
      exact pb_V.mono (by omega) (by omega) (ih2 _ (by omega) (k + 1) H1_ rfl hG (by omega) ⟨hz, hO, hA1, hA2, hA3, hA4, hA5, hA6, hA7, hA8, hA9, hA10, hA11, hA12⟩ hF ls (lv_sub hl [1, 0] rfl))
  refine pb_ic C dX3_empties_0 ?_
  refine pb_istore_n C dX3_empties_1 rfl hl (by decide) rfl fun ls hl => ?_
  have hl : lv_has ls 2 [(1, .int (iZ (0))), (0, .ref (o))] := hl
  exact pb_V.mono (by omega) (by omega) (L2 _ 0 H0 rfl hG (by omega) (by rw [mdR_0, mB_self]; exact hM) hF ls (lv_sub hl [1, 0] rfl))

set_option maxHeartbeats 1000000 in
theorem met_X3_inside {w : pb_W} (l : Launch) {H0 : Heap} (o : Nat) (S : mS) (hM : MW w H0 o S) (s : Nat) (hs : s < 8) (hb : mok S) : pb_M w l yX3_inside cX3_inside 3 none 3 (0) (0) [.ref (o), .int (iZ (((s : Nat) : Int)))] H0 (pb_qv (fun H1 => MW w H1 o (mB S 3 (mdR (fun i => gins (mg S s) i) (S.2.1 3) 26)) ∧ mF o H0 H1)) := by
  refine pb_of (by decide +kernel) (Nat.le_of_ble_eq_true rfl) ?_
  intro p_ e_ s_ m_ ar_ bl_ me_ co_ ls C hh hG hl
  have hl : lv_has ls 3 [(0, .ref (o)), (1, .int (iZ (((s : Nat) : Int))))] := hl
  have hM0 := hM; obtain ⟨hz, hO, hA1, hA2, hA3, hA4, hA5, hA6, hA7, hA8, hA9, hA10, hA11, hA12⟩ := hM0
  have hF : mF o H0 H0 := mF.rf
  have L2 : ∀ (n_ : Nat) (k : Nat) (H : Heap), 26 - k = n_ → (pb_G w s_ H) → (k ≤ 26) → (MW w H o (mB S 3 (mdR (fun i => gins (mg S s) i) (S.2.1 3) k))) → (mF o H0 H) → ∀ (ls : Array Slot), lv_has ls 3 [(0, .ref (o)), (1, .int (iZ (((s : Nat) : Int)))), (2, .int (iZ (((k : Nat) : Int))))] → pb_V w.2.2.2 p_ l e_ (pb_rm 3 (0) (0)) s_ m_ ar_ bl_ me_ co_ H (0) (0) (pb_E w bl_ ar_ s_ (0) (0) (pb_qv (fun H1 => MW w H1 o (mB S 3 (mdR (fun i => gins (mg S s) i) (S.2.1 3) 26)) ∧ mF o H0 H1))) (F0 m_ 2 ls []) := by
    intro n_
    induction n_ using Nat.strongRecOn with
    | _ n_ ih2 =>
    intro k H hm_ hG hk hM hF ls hl
    have hM0 := hM; obtain ⟨hz, hO, hA1, hA2, hA3, hA4, hA5, hA6, hA7, hA8, hA9, hA10, hA11, hA12⟩ := hM0
    have hO : pb_O w H o 2 [.int (iZ ((S.1 0))), .int (iZ ((S.1 1))), .ref (o + 1), .ref (o + 2), .ref (o + 3), .ref (o + 4), .ref (o + 5), .ref (o + 6), .ref (o + 7), .ref (o + 8), .ref (o + 9), .ref (o + 10), .ref (o + 11), .ref (o + 12), .int (iZ ((S.1 2))), .int (iZ ((S.1 3)))] := hO
    have hA1 : pb_A w H (o + 1) 0 192 (pb_nf (S.2.1 0)) := hA1
    have hA2 : pb_A w H (o + 2) 0 24 (pb_nf (S.2.1 1)) := hA2
    have hA3 : pb_A w H (o + 3) 0 26 (pb_nf (S.2.1 2)) := hA3
    have hA4 : pb_A w H (o + 4) 0 26 (pb_nf (mdR (fun i => gins (mg S s) i) (S.2.1 3) k)) := hA4
    have hA5 : pb_A w H (o + 5) 0 40 (pb_zf (S.2.2 0)) := hA5
    have hA6 : pb_A w H (o + 6) 0 40 (pb_zf (S.2.2 1)) := hA6
    have hA7 : pb_A w H (o + 7) 0 576 (pb_zf (S.2.2 2)) := hA7
    have hA8 : pb_A w H (o + 8) 0 1300 (pb_zf (S.2.2 3)) := hA8
    have hA9 : pb_A w H (o + 9) 0 1300 (pb_zf (S.2.2 4)) := hA9
    have hA10 : pb_A w H (o + 10) 0 400 (pb_zf (S.2.2 5)) := hA10
    have hA11 : pb_A w H (o + 11) 0 400 (pb_zf (S.2.2 6)) := hA11
    have hA12 : pb_A w H (o + 12) 0 625 (pb_nf (S.2.1 4)) := hA12
    refine pb_iload_n C dX3_inside_2 rfl (lv_at hl 2 rfl) ?_
    refine pb_bip C dX3_inside_3 (by decide) ?_
    refine pb_icmp_ge C dX3_inside_5 (x := ((k : Nat) : Int)) (y := 26) (tgt := 30) (by decide) (by omega) (by omega) (fun c5_ => ?_) (fun c5_ => ?_)
    · obtain rfl : k = 26 := by omega
      exact pb_vret C dX3_inside_30 (⟨rfl, hM, hF⟩)
    · refine pb_aload_n C dX3_inside_8 rfl (lv_at hl 0 rfl) ?_
      refine pb_get C in_X3 hO.r (ci := 2) rfl 5 (by decide) q1742 (fun _ h9 => h9) (v := .ref (o + 4)) rfl dX3_inside_9 ?_
      refine pb_iload_n C dX3_inside_12 rfl (lv_at hl 2 rfl) ?_
      refine pb_aload_n C dX3_inside_13 rfl (lv_at hl 0 rfl) ?_
      refine pb_iload_n C dX3_inside_14 rfl (lv_at hl 1 rfl) ?_
      refine pb_iload_n C dX3_inside_15 rfl (lv_at hl 2 rfl) ?_
      refine pb_ic C dX3_inside_16 ?_
      refine pb_isub C dX3_inside_17 ?_
      refine pb_go_x (bc' := 0) (bs' := 0) (pb_runV (rest := [.int (iZ (((k : Nat) : Int))), .ref (o + 4)]) C hG (met_X3_row l o (mB S 3 (mdR (fun i => gins (mg S s) i) (S.2.1 3) k)) hM s hs (((k : Nat) : Int) - 1) (by omega)) hO.r (ci := 2) rfl (lw_V q1807 q1809 qs28 q60 q1810) ⟨rfl, hdX3_row⟩ rfl hl.1 rfl (Nat.le_of_ble_eq_true rfl) ⟨(Nat.le_of_ble_eq_true rfl), (Nat.le_of_ble_eq_true rfl)⟩ dX3_inside_18) (by omega) (by omega) ?_
      refine pb_eq (g2 := F0 m_ 21 ls [.int (iZ ((((gr (mg S s) (((k : Nat) : Int) - 1)) : Nat) : Int))), .int (iZ (((k : Nat) : Int))), .ref (o + 4)]) (congrArg (fun z9 => F0 m_ 21 ls [.int (iZ z9), .int (iZ (((k : Nat) : Int))), .ref (o + 4)]) (show (((gr (mg (mB S 3 (mdR (fun i => gins (mg S s) i) (S.2.1 3) k)) s) (((k : Nat) : Int) - 1)) : Nat) : Int) = (((gr (mg S s) (((k : Nat) : Int) - 1)) : Nat) : Int) from rfl)) ?_
      refine pb_ic C dX3_inside_21 ?_
      refine pb_ishl C dX3_inside_22 (x := (gr (mg S s) (((k : Nat) : Int) - 1))) (y := 1) (by omega) ?_
      refine pb_iast C hA4 (i := ((k : Nat) : Int)) (by omega) (by omega) dX3_inside_23 fun H1_ hu_ hA4 => ?_
      rw [pb_upN, Int.toNat_natCast, mdR_step (fun i => gins (mg S s) i) _ k (v := ((gr (mg S s) (((k : Nat) : Int) - 1)) <<< 1)) rfl] at hA4
      have hG := hG.kept (hu_.z (by omega))
      have hO := hO.kept (hu_.2 _ (by omega))
      have hA1 := hA1.kept (hu_.2 _ (by omega))
      have hA2 := hA2.kept (hu_.2 _ (by omega))
      have hA3 := hA3.kept (hu_.2 _ (by omega))
      have hA5 := hA5.kept (hu_.2 _ (by omega))
      have hA6 := hA6.kept (hu_.2 _ (by omega))
      have hA7 := hA7.kept (hu_.2 _ (by omega))
      have hA8 := hA8.kept (hu_.2 _ (by omega))
      have hA9 := hA9.kept (hu_.2 _ (by omega))
      have hA10 := hA10.kept (hu_.2 _ (by omega))
      have hA11 := hA11.kept (hu_.2 _ (by omega))
      have hA12 := hA12.kept (hu_.2 _ (by omega))
      have hF := hF.up hu_ (by omega)
      refine pb_iinc C dX3_inside_24 hl (j := 2) (x := (((k : Nat) : Int))) rfl (by decide) rfl fun ls hl => ?_
      have hl : lv_has ls 3 [(2, .int (iZ ((((k + 1) : Nat) : Int)))), (0, .ref (o)), (1, .int (iZ (((s : Nat) : Int))))] := hl
      refine pb_goto C dX3_inside_27 (tgt := 2) (by decide) ?_
      exact pb_V.mono (by omega) (by omega) (ih2 _ (by omega) (k + 1) H1_ rfl hG (by omega) ⟨hz, hO, hA1, hA2, hA3, hA4, hA5, hA6, hA7, hA8, hA9, hA10, hA11, hA12⟩ hF ls (lv_sub hl [1, 2, 0] rfl))
  refine pb_ic C dX3_inside_0 ?_
  refine pb_istore_n C dX3_inside_1 rfl hl (by decide) rfl fun ls hl => ?_
  have hl : lv_has ls 3 [(2, .int (iZ (0))), (0, .ref (o)), (1, .int (iZ (((s : Nat) : Int))))] := hl
  exact pb_V.mono (by omega) (by omega) (L2 _ 0 H0 rfl hG (by omega) (by rw [mdR_0, mB_self]; exact hM) hF ls (lv_sub hl [1, 2, 0] rfl))

set_option maxHeartbeats 1000000 in
theorem met_X3_outside {w : pb_W} (l : Launch) {H0 : Heap} (o : Nat) (S : mS) (hM : MW w H0 o S) (s : Nat) (hs : s < 8) (hb : mok S) : pb_M w l yX3_outside cX3_outside 3 none 3 (0) (0) [.ref (o), .int (iZ (((s : Nat) : Int)))] H0 (pb_qv (fun H1 => MW w H1 o (mB S 3 (mdR (fun i => gout (mg S s) i) (S.2.1 3) 26)) ∧ mF o H0 H1)) := by
  refine pb_of (by decide +kernel) (Nat.le_of_ble_eq_true rfl) ?_
  intro p_ e_ s_ m_ ar_ bl_ me_ co_ ls C hh hG hl
  have hl : lv_has ls 3 [(0, .ref (o)), (1, .int (iZ (((s : Nat) : Int))))] := hl
  have hM0 := hM; obtain ⟨hz, hO, hA1, hA2, hA3, hA4, hA5, hA6, hA7, hA8, hA9, hA10, hA11, hA12⟩ := hM0
  have hF : mF o H0 H0 := mF.rf
  have L2 : ∀ (n_ : Nat) (k : Nat) (H : Heap), 26 - k = n_ → (pb_G w s_ H) → (k ≤ 26) → (MW w H o (mB S 3 (mdR (fun i => gout (mg S s) i) (S.2.1 3) k))) → (mF o H0 H) → ∀ (ls : Array Slot), lv_has ls 3 [(0, .ref (o)), (1, .int (iZ (((s : Nat) : Int)))), (2, .int (iZ (((k : Nat) : Int))))] → pb_V w.2.2.2 p_ l e_ (pb_rm 3 (0) (0)) s_ m_ ar_ bl_ me_ co_ H (0) (0) (pb_E w bl_ ar_ s_ (0) (0) (pb_qv (fun H1 => MW w H1 o (mB S 3 (mdR (fun i => gout (mg S s) i) (S.2.1 3) 26)) ∧ mF o H0 H1))) (F0 m_ 2 ls []) := by
    intro n_
    induction n_ using Nat.strongRecOn with
    | _ n_ ih2 =>
    intro k H hm_ hG hk hM hF ls hl
    have hM0 := hM; obtain ⟨hz, hO, hA1, hA2, hA3, hA4, hA5, hA6, hA7, hA8, hA9, hA10, hA11, hA12⟩ := hM0
    have hO : pb_O w H o 2 [.int (iZ ((S.1 0))), .int (iZ ((S.1 1))), .ref (o + 1), .ref (o + 2), .ref (o + 3), .ref (o + 4), .ref (o + 5), .ref (o + 6), .ref (o + 7), .ref (o + 8), .ref (o + 9), .ref (o + 10), .ref (o + 11), .ref (o + 12), .int (iZ ((S.1 2))), .int (iZ ((S.1 3)))] := hO
    have hA1 : pb_A w H (o + 1) 0 192 (pb_nf (S.2.1 0)) := hA1
    have hA2 : pb_A w H (o + 2) 0 24 (pb_nf (S.2.1 1)) := hA2
    have hA3 : pb_A w H (o + 3) 0 26 (pb_nf (S.2.1 2)) := hA3
    have hA4 : pb_A w H (o + 4) 0 26 (pb_nf (mdR (fun i => gout (mg S s) i) (S.2.1 3) k)) := hA4
    have hA5 : pb_A w H (o + 5) 0 40 (pb_zf (S.2.2 0)) := hA5
    have hA6 : pb_A w H (o + 6) 0 40 (pb_zf (S.2.2 1)) := hA6
    have hA7 : pb_A w H (o + 7) 0 576 (pb_zf (S.2.2 2)) := hA7
    have hA8 : pb_A w H (o + 8) 0 1300 (pb_zf (S.2.2 3)) := hA8
    have hA9 : pb_A w H (o + 9) 0 1300 (pb_zf (S.2.2 4)) := hA9
    have hA10 : pb_A w H (o + 10) 0 400 (pb_zf (S.2.2 5)) := hA10
    have hA11 : pb_A w H (o + 11) 0 400 (pb_zf (S.2.2 6)) := hA11
    have hA12 : pb_A w H (o + 12) 0 625 (pb_nf (S.2.1 4)) := hA12
    refine pb_iload_n C dX3_outside_2 rfl (lv_at hl 2 rfl) ?_
    refine pb_bip C dX3_outside_3 (by decide) ?_
    refine pb_icmp_ge C dX3_outside_5 (x := ((k : Nat) : Int)) (y := 26) (tgt := 35) (by decide) (by omega) (by omega) (fun c5_ => ?_) (fun c5_ => ?_)
    · obtain rfl : k = 26 := by omega
      exact pb_vret C dX3_outside_35 (⟨rfl, hM, hF⟩)
    · refine pb_aload_n C dX3_outside_8 rfl (lv_at hl 0 rfl) ?_
      refine pb_get C in_X3 hO.r (ci := 2) rfl 5 (by decide) q1742 (fun _ h9 => h9) (v := .ref (o + 4)) rfl dX3_outside_9 ?_
      refine pb_iload_n C dX3_outside_12 rfl (lv_at hl 2 rfl) ?_
      refine pb_ldc C dX3_outside_13 q1907 (67108863) (by decide +kernel) ?_
      refine pb_aload_n C dX3_outside_15 rfl (lv_at hl 0 rfl) ?_
      refine pb_iload_n C dX3_outside_16 rfl (lv_at hl 1 rfl) ?_
      refine pb_iload_n C dX3_outside_17 rfl (lv_at hl 2 rfl) ?_
      refine pb_ic C dX3_outside_18 ?_
      refine pb_isub C dX3_outside_19 ?_
      refine pb_go_x (bc' := 0) (bs' := 0) (pb_runV (rest := [.int (iZ (67108863)), .int (iZ (((k : Nat) : Int))), .ref (o + 4)]) C hG (met_X3_row l o (mB S 3 (mdR (fun i => gout (mg S s) i) (S.2.1 3) k)) hM s hs (((k : Nat) : Int) - 1) (by omega)) hO.r (ci := 2) rfl (lw_V q1807 q1809 qs28 q60 q1810) ⟨rfl, hdX3_row⟩ rfl hl.1 rfl (Nat.le_of_ble_eq_true rfl) ⟨(Nat.le_of_ble_eq_true rfl), (Nat.le_of_ble_eq_true rfl)⟩ dX3_outside_20) (by omega) (by omega) ?_
      refine pb_eq (g2 := F0 m_ 23 ls [.int (iZ ((((gr (mg S s) (((k : Nat) : Int) - 1)) : Nat) : Int))), .int (iZ (67108863)), .int (iZ (((k : Nat) : Int))), .ref (o + 4)]) (congrArg (fun z9 => F0 m_ 23 ls [.int (iZ z9), .int (iZ (67108863)), .int (iZ (((k : Nat) : Int))), .ref (o + 4)]) (show (((gr (mg (mB S 3 (mdR (fun i => gout (mg S s) i) (S.2.1 3) k)) s) (((k : Nat) : Int) - 1)) : Nat) : Int) = (((gr (mg S s) (((k : Nat) : Int) - 1)) : Nat) : Int) from rfl)) ?_
      refine pb_ic C dX3_outside_23 ?_
      refine pb_ishl C dX3_outside_24 (x := (gr (mg S s) (((k : Nat) : Int) - 1))) (y := 1) (by omega) ?_
      refine pb_ic C dX3_outside_25 ?_
      refine pb_inot C dX3_outside_26 (x := ((((gr (mg S s) (((k : Nat) : Int) - 1)) <<< 1) : Nat) : Int)) ?_
      refine pb_iandn C dX3_outside_27 (x := 67108863) (y := ((gr (mg S s) (((k : Nat) : Int) - 1)) <<< 1)) ?_
      refine pb_iast C hA4 (i := ((k : Nat) : Int)) (by omega) (by omega) dX3_outside_28 fun H1_ hu_ hA4 => ?_
      rw [pb_upN, Int.toNat_natCast, mdR_step (fun i => gout (mg S s) i) _ k (v := (pb_dif 67108863 (((gr (mg S s) (((k : Nat) : Int) - 1)) <<< 1)))) rfl] at hA4
      have hG := hG.kept (hu_.z (by omega))
      have hO := hO.kept (hu_.2 _ (by omega))
      have hA1 := hA1.kept (hu_.2 _ (by omega))
      have hA2 := hA2.kept (hu_.2 _ (by omega))
      have hA3 := hA3.kept (hu_.2 _ (by omega))
      have hA5 := hA5.kept (hu_.2 _ (by omega))
      have hA6 := hA6.kept (hu_.2 _ (by omega))
      have hA7 := hA7.kept (hu_.2 _ (by omega))
      have hA8 := hA8.kept (hu_.2 _ (by omega))
      have hA9 := hA9.kept (hu_.2 _ (by omega))
      have hA10 := hA10.kept (hu_.2 _ (by omega))
      have hA11 := hA11.kept (hu_.2 _ (by omega))
      have hA12 := hA12.kept (hu_.2 _ (by omega))
      have hF := hF.up hu_ (by omega)
      refine pb_iinc C dX3_outside_29 hl (j := 2) (x := (((k : Nat) : Int))) rfl (by decide) rfl fun ls hl => ?_
      have hl : lv_has ls 3 [(2, .int (iZ ((((k + 1) : Nat) : Int)))), (0, .ref (o)), (1, .int (iZ (((s : Nat) : Int))))] := hl
      refine pb_goto C dX3_outside_32 (tgt := 2) (by decide) ?_
      exact pb_V.mono (by omega) (by omega) (ih2 _ (by omega) (k + 1) H1_ rfl hG (by omega) ⟨hz, hO, hA1, hA2, hA3, hA4, hA5, hA6, hA7, hA8, hA9, hA10, hA11, hA12⟩ hF ls (lv_sub hl [1, 2, 0] rfl))
  refine pb_ic C dX3_outside_0 ?_
  refine pb_istore_n C dX3_outside_1 rfl hl (by decide) rfl fun ls hl => ?_
  have hl : lv_has ls 3 [(2, .int (iZ (0))), (0, .ref (o)), (1, .int (iZ (((s : Nat) : Int))))] := hl
  exact pb_V.mono (by omega) (by omega) (L2 _ 0 H0 rfl hG (by omega) (by rw [mdR_0, mB_self]; exact hM) hF ls (lv_sub hl [1, 2, 0] rfl))

