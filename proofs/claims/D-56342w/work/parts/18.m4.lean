set_option maxRecDepth 100000
set_option maxHeartbeats 1000000 in
theorem met_X3_combine_u {w : pb_W} (l : Launch) {H0 : Heap} (o : Nat) (S : mS) (hM : MW w H0 o S) (f g t : Nat) (hf : f < 8) (hg : g < 8) (ht : t < 8) (hb : mok S) : pb_M w l yX3_combine cX3_combine 9 (some .int) 6 (0) (0) [.ref (o), .int (iZ (117)), .int (iZ (((f : Nat) : Int))), .int (iZ (((g : Nat) : Int))), .int (iZ (((t : Nat) : Int)))] H0 (pb_qi (fun z H1 => z = ((cnt (mg (mB (mB (mI S 0 0) 1 (mdR (fun i => gop 1 (mg S f i) (mg S g i)) (S.2.1 1) 24)) 0 (rowsF (mB (mI S 0 0) 1 (mdR (fun i => gop 1 (mg S f i) (mg S g i)) (S.2.1 1) 24)) t 0 24 (mdR (fun i => gop 1 (mg S f i) (mg S g i)) (S.2.1 1) 24))) t) : Nat) : Int) ∧ MW w H1 o (mB (mB (mI S 0 0) 1 (mdR (fun i => gop 1 (mg S f i) (mg S g i)) (S.2.1 1) 24)) 0 (rowsF (mB (mI S 0 0) 1 (mdR (fun i => gop 1 (mg S f i) (mg S g i)) (S.2.1 1) 24)) t 0 24 (mdR (fun i => gop 1 (mg S f i) (mg S g i)) (S.2.1 1) 24))) ∧ mF o H0 H1)) := by
  refine pb_of (by decide +kernel) (Nat.le_of_ble_eq_true rfl) ?_
  intro p_ e_ s_ m_ ar_ bl_ me_ co_ ls C hh hG hl
  have hl : lv_has ls 9 [(0, .ref (o)), (1, .int (iZ (117))), (2, .int (iZ (((f : Nat) : Int)))), (3, .int (iZ (((g : Nat) : Int)))), (4, .int (iZ (((t : Nat) : Int))))] := hl
  have hM0 := hM; obtain ⟨hz, hO, hA1, hA2, hA3, hA4, hA5, hA6, hA7, hA8, hA9, hA10, hA11, hA12⟩ := hM0
  have hF : mF o H0 H0 := mF.rf
  have L95 : ∀ (n_ : Nat) (k : Nat) (H : Heap), 24 - k = n_ → (pb_G w s_ H) → (k ≤ 24) → (MW w H o (mB (mI S 0 0) 1 (mdR (fun i => gop 1 (mg S f i) (mg S g i)) (S.2.1 1) k))) → (mF o H0 H) → ∀ (ls : Array Slot), lv_has ls 9 [(0, .ref (o)), (2, .int (iZ (((f : Nat) : Int)))), (3, .int (iZ (((g : Nat) : Int)))), (4, .int (iZ (((t : Nat) : Int)))), (5, .int (iZ (1))), (6, .int (iZ (((k : Nat) : Int))))] → pb_V w.2.2.2 p_ l e_ (pb_rm 6 (0) (0)) s_ m_ ar_ bl_ me_ co_ H (0) (0) (pb_E w bl_ ar_ s_ (0) (0) (pb_qi (fun z H1 => z = ((cnt (mg (mB (mB (mI S 0 0) 1 (mdR (fun i => gop 1 (mg S f i) (mg S g i)) (S.2.1 1) 24)) 0 (rowsF (mB (mI S 0 0) 1 (mdR (fun i => gop 1 (mg S f i) (mg S g i)) (S.2.1 1) 24)) t 0 24 (mdR (fun i => gop 1 (mg S f i) (mg S g i)) (S.2.1 1) 24))) t) : Nat) : Int) ∧ MW w H1 o (mB (mB (mI S 0 0) 1 (mdR (fun i => gop 1 (mg S f i) (mg S g i)) (S.2.1 1) 24)) 0 (rowsF (mB (mI S 0 0) 1 (mdR (fun i => gop 1 (mg S f i) (mg S g i)) (S.2.1 1) 24)) t 0 24 (mdR (fun i => gop 1 (mg S f i) (mg S g i)) (S.2.1 1) 24))) ∧ mF o H0 H1))) (F0 m_ 95 ls []) := by
    intro n_
    induction n_ using Nat.strongRecOn with
    | _ n_ ih95 =>
    intro k H hm_ hG hk hM hF ls hl
    have hM0 := hM; obtain ⟨hz, hO, hA1, hA2, hA3, hA4, hA5, hA6, hA7, hA8, hA9, hA10, hA11, hA12⟩ := hM0
    have hO : pb_O w H o 2 [.int (iZ ((0))), .int (iZ ((S.1 1))), .ref (o + 1), .ref (o + 2), .ref (o + 3), .ref (o + 4), .ref (o + 5), .ref (o + 6), .ref (o + 7), .ref (o + 8), .ref (o + 9), .ref (o + 10), .ref (o + 11), .ref (o + 12), .int (iZ ((S.1 2))), .int (iZ ((S.1 3)))] := hO
    have hA1 : pb_A w H (o + 1) 0 192 (pb_nf (S.2.1 0)) := hA1
    have hA2 : pb_A w H (o + 2) 0 24 (pb_nf (mdR (fun i => gop 1 (mg S f i) (mg S g i)) (S.2.1 1) k)) := hA2
    have hA3 : pb_A w H (o + 3) 0 26 (pb_nf (S.2.1 2)) := hA3
    have hA4 : pb_A w H (o + 4) 0 26 (pb_nf (S.2.1 3)) := hA4
    have hA5 : pb_A w H (o + 5) 0 40 (pb_zf (S.2.2 0)) := hA5
    have hA6 : pb_A w H (o + 6) 0 40 (pb_zf (S.2.2 1)) := hA6
    have hA7 : pb_A w H (o + 7) 0 576 (pb_zf (S.2.2 2)) := hA7
    have hA8 : pb_A w H (o + 8) 0 1300 (pb_zf (S.2.2 3)) := hA8
    have hA9 : pb_A w H (o + 9) 0 1300 (pb_zf (S.2.2 4)) := hA9
    have hA10 : pb_A w H (o + 10) 0 400 (pb_zf (S.2.2 5)) := hA10
    have hA11 : pb_A w H (o + 11) 0 400 (pb_zf (S.2.2 6)) := hA11
    have hA12 : pb_A w H (o + 12) 0 625 (pb_nf (S.2.1 4)) := hA12
    refine pb_iload C dX3_combine_95 (lv_at hl 5 rfl) ?_
    refine pb_bip C dX3_combine_97 (by decide) ?_
    refine pb_icmp_ge C dX3_combine_99 (x := ((k : Nat) : Int)) (y := 24) (tgt := 182) (by decide) (by omega) (by omega) (fun c99_ => ?_) (fun c99_ => ?_)
    · obtain rfl : k = 24 := by omega
      refine pb_aload_n C dX3_combine_182 rfl (lv_at hl 0 rfl) ?_
      refine pb_iload C dX3_combine_183 (lv_at hl 3 rfl) ?_
      refine pb_go_i (bc' := 0) (bs' := 0) (pb_runV (rest := []) C hG (met_X3_puts l o (mB (mI S 0 0) 1 (mdR (fun i => gop 1 (mg S f i) (mg S g i)) (S.2.1 1) 24)) hM t ht hb (fun y hy => by rw [show (mB (mI S 0 0) 1 (mdR (fun i => gop 1 (mg S f i) (mg S g i)) (S.2.1 1) 24)).2.1 1 y = (mdR (fun i => gop 1 (mg S f i) (mg S g i)) (S.2.1 1) 24) y from rfl, mdR, if_pos hy]; exact gop_lt ((mg_ok hb hf).1 y) ((mg_ok hb hg).1 y))) hO.r (ci := 2) rfl (lw_V q1851 q1853 qs31 q60 q1854) ⟨rfl, hdX3_puts⟩ rfl hl.1 rfl (Nat.le_of_ble_eq_true rfl) ⟨(Nat.le_of_ble_eq_true rfl), (Nat.le_of_ble_eq_true rfl)⟩ dX3_combine_185) (by omega) (by omega) (fun z_ H_ hp_ => ?_)
      obtain ⟨hz_, hM, hF2⟩ := hp_
      have hF := hF.tr hF2
      exact pb_iret C dX3_combine_188 (⟨_, rfl, hz_, hM, hF⟩)
    · refine pb_aload_n C dX3_combine_102 rfl (lv_at hl 0 rfl) ?_
      refine pb_iload_n C dX3_combine_103 rfl (lv_at hl 1 rfl) ?_
      refine pb_iload C dX3_combine_104 (lv_at hl 5 rfl) ?_
      refine pb_go_x (bc' := 0) (bs' := 0) (pb_runV (rest := []) C hG (met_X3_row l o (mB (mI S 0 0) 1 (mdR (fun i => gop 1 (mg S f i) (mg S g i)) (S.2.1 1) k)) hM f (by omega) ((k : Nat) : Int) (by omega)) hO.r (ci := 2) rfl (lw_V q1807 q1809 qs28 q60 q1810) ⟨rfl, hdX3_row⟩ rfl hl.1 rfl (Nat.le_of_ble_eq_true rfl) ⟨(Nat.le_of_ble_eq_true rfl), (Nat.le_of_ble_eq_true rfl)⟩ dX3_combine_106) (by omega) (by omega) ?_
      refine pb_eq (g2 := F0 m_ 109 ls [.int (iZ ((((mg S f k) : Nat) : Int)))]) (congrArg (fun z9 => F0 m_ 109 ls [.int (iZ z9)]) (show (((gr (mg (mB (mI S 0 0) 1 (mdR (fun i => gop 1 (mg S f i) (mg S g i)) (S.2.1 1) k)) f) ((k : Nat) : Int)) : Nat) : Int) = (((mg S f k) : Nat) : Int) from congrArg (fun n : Nat => (n : Int)) (gr_nat (mg S f) k))) ?_
      refine pb_istore C dX3_combine_109 hl (by decide) rfl fun ls hl => ?_
      have hl : lv_has ls 9 [(7, .int (iZ ((((mg S f k) : Nat) : Int)))), (0, .ref (o)), (2, .int (iZ (((f : Nat) : Int)))), (3, .int (iZ (((g : Nat) : Int)))), (4, .int (iZ (((t : Nat) : Int)))), (5, .int (iZ (1))), (6, .int (iZ (((k : Nat) : Int))))] := hl
      refine pb_aload_n C dX3_combine_111 rfl (lv_at hl 1 rfl) ?_
      refine pb_iload_n C dX3_combine_112 rfl (lv_at hl 3 rfl) ?_
      refine pb_iload C dX3_combine_113 (lv_at hl 6 rfl) ?_
      refine pb_go_x (bc' := 0) (bs' := 0) (pb_runV (rest := []) C hG (met_X3_row l o (mB (mI S 0 0) 1 (mdR (fun i => gop 1 (mg S f i) (mg S g i)) (S.2.1 1) k)) hM g (by omega) ((k : Nat) : Int) (by omega)) hO.r (ci := 2) rfl (lw_V q1807 q1809 qs28 q60 q1810) ⟨rfl, hdX3_row⟩ rfl hl.1 rfl (Nat.le_of_ble_eq_true rfl) ⟨(Nat.le_of_ble_eq_true rfl), (Nat.le_of_ble_eq_true rfl)⟩ dX3_combine_115) (by omega) (by omega) ?_
      refine pb_eq (g2 := F0 m_ 118 ls [.int (iZ ((((mg S g k) : Nat) : Int)))]) (congrArg (fun z9 => F0 m_ 118 ls [.int (iZ z9)]) (show (((gr (mg (mB (mI S 0 0) 1 (mdR (fun i => gop 1 (mg S f i) (mg S g i)) (S.2.1 1) k)) g) ((k : Nat) : Int)) : Nat) : Int) = (((mg S g k) : Nat) : Int) from congrArg (fun n : Nat => (n : Int)) (gr_nat (mg S g) k))) ?_
      refine pb_istore C dX3_combine_118 hl (by decide) rfl fun ls hl => ?_
      have hl : lv_has ls 9 [(8, .int (iZ ((((mg S g k) : Nat) : Int)))), (7, .int (iZ ((((mg S f k) : Nat) : Int)))), (0, .ref (o)), (2, .int (iZ (((f : Nat) : Int)))), (3, .int (iZ (((g : Nat) : Int)))), (4, .int (iZ (((t : Nat) : Int)))), (5, .int (iZ (1))), (6, .int (iZ (((k : Nat) : Int))))] := hl
      refine pb_aload_n C dX3_combine_120 rfl (lv_at hl 2 rfl) ?_
      refine pb_get C in_X3 hO.r (ci := 2) rfl 3 (by decide) q1740 (fun _ h9 => h9) (v := .ref (o + 2)) rfl dX3_combine_121 ?_
      refine pb_iload C dX3_combine_124 (lv_at hl 7 rfl) ?_
      refine pb_iload C dX3_combine_126 (lv_at hl 6 rfl) ?_
      refine pb_ic C dX3_combine_128 ?_
      refine pb_icmp_ne C dX3_combine_129 (x := 1) (y := 1) (tgt := 140) (by decide) (by omega) (by omega) (fun c129_ => ?_) (fun c129_ => ?_)
      · exact absurd c129_ (by decide)
      · refine pb_iload C dX3_combine_132 (lv_at hl 1 rfl) ?_
        refine pb_iload C dX3_combine_134 (lv_at hl 0 rfl) ?_
        refine pb_ior C dX3_combine_136 (x := (mg S f k)) (y := (mg S g k)) ?_
        refine pb_goto C dX3_combine_137 (tgt := 175) (by decide) ?_
        refine pb_iast C hA2 (i := ((k : Nat) : Int)) (by omega) (by omega) dX3_combine_175 fun H1_ hu_ hA2 => ?_
        rw [pb_upN, Int.toNat_natCast, mdR_step (fun i => gop 1 (mg S f i) (mg S g i)) _ k (v := ((mg S f k) ||| (mg S g k))) rfl] at hA2
        have hG := hG.kept (hu_.z (by omega))
        have hO := hO.kept (hu_.2 _ (by omega))
        have hA1 := hA1.kept (hu_.2 _ (by omega))
        have hA3 := hA3.kept (hu_.2 _ (by omega))
        have hA4 := hA4.kept (hu_.2 _ (by omega))
        have hA5 := hA5.kept (hu_.2 _ (by omega))
        have hA6 := hA6.kept (hu_.2 _ (by omega))
        have hA7 := hA7.kept (hu_.2 _ (by omega))
        have hA8 := hA8.kept (hu_.2 _ (by omega))
        have hA9 := hA9.kept (hu_.2 _ (by omega))
        have hA10 := hA10.kept (hu_.2 _ (by omega))
        have hA11 := hA11.kept (hu_.2 _ (by omega))
        have hA12 := hA12.kept (hu_.2 _ (by omega))
        have hF := hF.up hu_ (by omega)
        refine pb_iinc C dX3_combine_176 hl (j := 7) (x := (((k : Nat) : Int))) rfl (by decide) rfl fun ls hl => ?_
        have hl : lv_has ls 9 [(6, .int (iZ ((((k + 1) : Nat) : Int)))), (8, .int (iZ ((((mg S g k) : Nat) : Int)))), (7, .int (iZ ((((mg S f k) : Nat) : Int)))), (0, .ref (o)), (2, .int (iZ (((f : Nat) : Int)))), (3, .int (iZ (((g : Nat) : Int)))), (4, .int (iZ (((t : Nat) : Int)))), (5, .int (iZ (1)))] := hl
        refine pb_goto C dX3_combine_179 (tgt := 95) (by decide) ?_
        exact pb_V.mono (by omega) (by omega) (ih95 _ (by omega) (k + 1) H1_ rfl hG (by omega) ⟨hz, hO, hA1, hA2, hA3, hA4, hA5, hA6, hA7, hA8, hA9, hA10, hA11, hA12⟩ hF ls (lv_sub hl [3, 4, 5, 6, 7, 0] rfl))
  refine pb_iload_n C dX3_combine_0 rfl (lv_at hl 1 rfl) ?_
  refine pb_bip C dX3_combine_1 (by decide) ?_
  refine pb_icmp_ne C dX3_combine_3 (x := 117) (y := 117) (tgt := 10) (by decide) (by omega) (by omega) (fun c3_ => ?_) (fun c3_ => ?_)
  · exact absurd c3_ (by decide)
  · refine pb_ic C dX3_combine_6 ?_
    refine pb_goto C dX3_combine_7 (tgt := 41) (by decide) ?_
    refine pb_istore C dX3_combine_41 hl (by decide) rfl fun ls hl => ?_
    have hl : lv_has ls 9 [(5, .int (iZ (1))), (0, .ref (o)), (1, .int (iZ (117))), (2, .int (iZ (((f : Nat) : Int)))), (3, .int (iZ (((g : Nat) : Int)))), (4, .int (iZ (((t : Nat) : Int))))] := hl
    refine pb_aload_n C dX3_combine_43 rfl (lv_at hl 1 rfl) ?_
    refine pb_iload_n C dX3_combine_44 rfl (lv_at hl 3 rfl) ?_
    refine pb_go_x (bc' := 0) (bs' := 0) (pb_runS (rest := [.ref (o)]) C hG (met_X3_isSheet l (((f : Nat) : Int)) (by omega)) (lw_S q1794 q1795 q60 q1796) hdX3_isSheet rfl hl.1 rfl (Nat.le_of_ble_eq_true rfl) ⟨(Nat.le_of_ble_eq_true rfl), (Nat.le_of_ble_eq_true rfl)⟩ dX3_combine_45) (by omega) (by omega) ?_
    refine pb_ifB_eq C dX3_combine_48 (tgt := 66) (by decide) (fun c48_ => ?_) (fun c48_ => ?_)
    · have c48_ := of_decide_eq_false c48_
      omega
    · have c48_ := of_decide_eq_true c48_
      refine pb_iload_n C dX3_combine_51 rfl (lv_at hl 4 rfl) ?_
      refine pb_go_x (bc' := 0) (bs' := 0) (pb_runS (rest := [.ref (o)]) C hG (met_X3_isSheet l (((g : Nat) : Int)) (by omega)) (lw_S q1794 q1795 q60 q1796) hdX3_isSheet rfl hl.1 rfl (Nat.le_of_ble_eq_true rfl) ⟨(Nat.le_of_ble_eq_true rfl), (Nat.le_of_ble_eq_true rfl)⟩ dX3_combine_52) (by omega) (by omega) ?_
      refine pb_ifB_eq C dX3_combine_55 (tgt := 66) (by decide) (fun c55_ => ?_) (fun c55_ => ?_)
      · have c55_ := of_decide_eq_false c55_
        omega
      · have c55_ := of_decide_eq_true c55_
        refine pb_iload C dX3_combine_58 (lv_at hl 5 rfl) ?_
        refine pb_go_x (bc' := 0) (bs' := 0) (pb_runS (rest := [.ref (o)]) C hG (met_X3_isSheet l (((t : Nat) : Int)) (by omega)) (lw_S q1794 q1795 q60 q1796) hdX3_isSheet rfl hl.1 rfl (Nat.le_of_ble_eq_true rfl) ⟨(Nat.le_of_ble_eq_true rfl), (Nat.le_of_ble_eq_true rfl)⟩ dX3_combine_60) (by omega) (by omega) ?_
        refine pb_ifB_ne C dX3_combine_63 (tgt := 70) (by decide) (fun c63_ => ?_) (fun c63_ => ?_)
        · have c63_ := of_decide_eq_true c63_
          refine pb_iload C dX3_combine_70 (lv_at hl 0 rfl) ?_
          refine pb_if_ne C dX3_combine_72 (x := 1) (tgt := 79) (by decide) (by omega) (fun c72_ => ?_) (fun c72_ => ?_)
          · refine pb_ic C dX3_combine_79 ?_
            refine pb_put C in_X3 tyX3 tyX3_ok nmX3 hO (ci := 2) rfl 0 (by decide) q1737 (fun _ h9 => h9) rfl (v := .int (iZ (0))) rfl rfl (Nat.le_of_ble_eq_true rfl) (by omega) dX3_combine_80 fun H2_ hu_ hO => ?_
            have hO : pb_O w H2_ (o) 2 [.int (iZ (0)), .int (iZ ((S.1 1))), .ref (o + 1), .ref (o + 2), .ref (o + 3), .ref (o + 4), .ref (o + 5), .ref (o + 6), .ref (o + 7), .ref (o + 8), .ref (o + 9), .ref (o + 10), .ref (o + 11), .ref (o + 12), .int (iZ ((S.1 2))), .int (iZ ((S.1 3)))] := hO
            have hG := hG.kept (hu_.z (by omega))
            have hA1 := hA1.kept (hu_.2 _ (by omega))
            have hA2 := hA2.kept (hu_.2 _ (by omega))
            have hA3 := hA3.kept (hu_.2 _ (by omega))
            have hA4 := hA4.kept (hu_.2 _ (by omega))
            have hA5 := hA5.kept (hu_.2 _ (by omega))
            have hA6 := hA6.kept (hu_.2 _ (by omega))
            have hA7 := hA7.kept (hu_.2 _ (by omega))
            have hA8 := hA8.kept (hu_.2 _ (by omega))
            have hA9 := hA9.kept (hu_.2 _ (by omega))
            have hA10 := hA10.kept (hu_.2 _ (by omega))
            have hA11 := hA11.kept (hu_.2 _ (by omega))
            have hA12 := hA12.kept (hu_.2 _ (by omega))
            have hF := hF.up hu_ (by omega)
            refine pb_aload_n C dX3_combine_83 rfl (lv_at hl 1 rfl) ?_
            refine pb_get C in_X3 hO.r (ci := 2) rfl 0 (by decide) q1737 (fun _ h9 => h9) (v := .int (iZ (0))) rfl dX3_combine_84 ?_
            refine pb_if_eq C dX3_combine_87 (x := 0) (tgt := 92) (by decide) (by omega) (fun c87_ => ?_) (fun c87_ => ?_)
            · refine pb_ic C dX3_combine_92 ?_
              refine pb_istore C dX3_combine_93 hl (by decide) rfl fun ls hl => ?_
              have hl : lv_has ls 9 [(6, .int (iZ (0))), (5, .int (iZ (1))), (0, .ref (o)), (1, .int (iZ (117))), (2, .int (iZ (((f : Nat) : Int)))), (3, .int (iZ (((g : Nat) : Int)))), (4, .int (iZ (((t : Nat) : Int))))] := hl
              exact pb_V.mono (by omega) (by omega) (L95 _ 0 H2_ rfl hG (by omega) (by rw [mdR_0]; exact ⟨hz, hO, hA1, hA2, hA3, hA4, hA5, hA6, hA7, hA8, hA9, hA10, hA11, hA12⟩) hF ls (lv_sub hl [2, 4, 5, 6, 1, 0] rfl))
            · exact absurd c87_ (by decide)
          · exact absurd c72_ (by decide)
        · have c63_ := of_decide_eq_false c63_
          omega

set_option maxHeartbeats 1000000 in
theorem met_X3_combine_i {w : pb_W} (l : Launch) {H0 : Heap} (o : Nat) (S : mS) (hM : MW w H0 o S) (f g t : Nat) (hf : f < 8) (hg : g < 8) (ht : t < 8) (hb : mok S) : pb_M w l yX3_combine cX3_combine 9 (some .int) 6 (0) (0) [.ref (o), .int (iZ (105)), .int (iZ (((f : Nat) : Int))), .int (iZ (((g : Nat) : Int))), .int (iZ (((t : Nat) : Int)))] H0 (pb_qi (fun z H1 => z = ((cnt (mg (mB (mB (mI S 0 0) 1 (mdR (fun i => gop 2 (mg S f i) (mg S g i)) (S.2.1 1) 24)) 0 (rowsF (mB (mI S 0 0) 1 (mdR (fun i => gop 2 (mg S f i) (mg S g i)) (S.2.1 1) 24)) t 0 24 (mdR (fun i => gop 2 (mg S f i) (mg S g i)) (S.2.1 1) 24))) t) : Nat) : Int) ∧ MW w H1 o (mB (mB (mI S 0 0) 1 (mdR (fun i => gop 2 (mg S f i) (mg S g i)) (S.2.1 1) 24)) 0 (rowsF (mB (mI S 0 0) 1 (mdR (fun i => gop 2 (mg S f i) (mg S g i)) (S.2.1 1) 24)) t 0 24 (mdR (fun i => gop 2 (mg S f i) (mg S g i)) (S.2.1 1) 24))) ∧ mF o H0 H1)) := by
  refine pb_of (by decide +kernel) (Nat.le_of_ble_eq_true rfl) ?_
  intro p_ e_ s_ m_ ar_ bl_ me_ co_ ls C hh hG hl
  have hl : lv_has ls 9 [(0, .ref (o)), (1, .int (iZ (105))), (2, .int (iZ (((f : Nat) : Int)))), (3, .int (iZ (((g : Nat) : Int)))), (4, .int (iZ (((t : Nat) : Int))))] := hl
  have hM0 := hM; obtain ⟨hz, hO, hA1, hA2, hA3, hA4, hA5, hA6, hA7, hA8, hA9, hA10, hA11, hA12⟩ := hM0
  have hF : mF o H0 H0 := mF.rf
  have L95 : ∀ (n_ : Nat) (k : Nat) (H : Heap), 24 - k = n_ → (pb_G w s_ H) → (k ≤ 24) → (MW w H o (mB (mI S 0 0) 1 (mdR (fun i => gop 2 (mg S f i) (mg S g i)) (S.2.1 1) k))) → (mF o H0 H) → ∀ (ls : Array Slot), lv_has ls 9 [(0, .ref (o)), (2, .int (iZ (((f : Nat) : Int)))), (3, .int (iZ (((g : Nat) : Int)))), (4, .int (iZ (((t : Nat) : Int)))), (5, .int (iZ (2))), (6, .int (iZ (((k : Nat) : Int))))] → pb_V w.2.2.2 p_ l e_ (pb_rm 6 (0) (0)) s_ m_ ar_ bl_ me_ co_ H (0) (0) (pb_E w bl_ ar_ s_ (0) (0) (pb_qi (fun z H1 => z = ((cnt (mg (mB (mB (mI S 0 0) 1 (mdR (fun i => gop 2 (mg S f i) (mg S g i)) (S.2.1 1) 24)) 0 (rowsF (mB (mI S 0 0) 1 (mdR (fun i => gop 2 (mg S f i) (mg S g i)) (S.2.1 1) 24)) t 0 24 (mdR (fun i => gop 2 (mg S f i) (mg S g i)) (S.2.1 1) 24))) t) : Nat) : Int) ∧ MW w H1 o (mB (mB (mI S 0 0) 1 (mdR (fun i => gop 2 (mg S f i) (mg S g i)) (S.2.1 1) 24)) 0 (rowsF (mB (mI S 0 0) 1 (mdR (fun i => gop 2 (mg S f i) (mg S g i)) (S.2.1 1) 24)) t 0 24 (mdR (fun i => gop 2 (mg S f i) (mg S g i)) (S.2.1 1) 24))) ∧ mF o H0 H1))) (F0 m_ 95 ls []) := by
    intro n_
    induction n_ using Nat.strongRecOn with
    | _ n_ ih95 =>
    intro k H hm_ hG hk hM hF ls hl
    have hM0 := hM; obtain ⟨hz, hO, hA1, hA2, hA3, hA4, hA5, hA6, hA7, hA8, hA9, hA10, hA11, hA12⟩ := hM0
    have hO : pb_O w H o 2 [.int (iZ ((0))), .int (iZ ((S.1 1))), .ref (o + 1), .ref (o + 2), .ref (o + 3), .ref (o + 4), .ref (o + 5), .ref (o + 6), .ref (o + 7), .ref (o + 8), .ref (o + 9), .ref (o + 10), .ref (o + 11), .ref (o + 12), .int (iZ ((S.1 2))), .int (iZ ((S.1 3)))] := hO
    have hA1 : pb_A w H (o + 1) 0 192 (pb_nf (S.2.1 0)) := hA1
    have hA2 : pb_A w H (o + 2) 0 24 (pb_nf (mdR (fun i => gop 2 (mg S f i) (mg S g i)) (S.2.1 1) k)) := hA2
    have hA3 : pb_A w H (o + 3) 0 26 (pb_nf (S.2.1 2)) := hA3
    have hA4 : pb_A w H (o + 4) 0 26 (pb_nf (S.2.1 3)) := hA4
    have hA5 : pb_A w H (o + 5) 0 40 (pb_zf (S.2.2 0)) := hA5
    have hA6 : pb_A w H (o + 6) 0 40 (pb_zf (S.2.2 1)) := hA6
    have hA7 : pb_A w H (o + 7) 0 576 (pb_zf (S.2.2 2)) := hA7
    have hA8 : pb_A w H (o + 8) 0 1300 (pb_zf (S.2.2 3)) := hA8
    have hA9 : pb_A w H (o + 9) 0 1300 (pb_zf (S.2.2 4)) := hA9
    have hA10 : pb_A w H (o + 10) 0 400 (pb_zf (S.2.2 5)) := hA10
    have hA11 : pb_A w H (o + 11) 0 400 (pb_zf (S.2.2 6)) := hA11
    have hA12 : pb_A w H (o + 12) 0 625 (pb_nf (S.2.1 4)) := hA12
    refine pb_iload C dX3_combine_95 (lv_at hl 5 rfl) ?_
    refine pb_bip C dX3_combine_97 (by decide) ?_
    refine pb_icmp_ge C dX3_combine_99 (x := ((k : Nat) : Int)) (y := 24) (tgt := 182) (by decide) (by omega) (by omega) (fun c99_ => ?_) (fun c99_ => ?_)
    · obtain rfl : k = 24 := by omega
      refine pb_aload_n C dX3_combine_182 rfl (lv_at hl 0 rfl) ?_
      refine pb_iload C dX3_combine_183 (lv_at hl 3 rfl) ?_
      refine pb_go_i (bc' := 0) (bs' := 0) (pb_runV (rest := []) C hG (met_X3_puts l o (mB (mI S 0 0) 1 (mdR (fun i => gop 2 (mg S f i) (mg S g i)) (S.2.1 1) 24)) hM t ht hb (fun y hy => by rw [show (mB (mI S 0 0) 1 (mdR (fun i => gop 2 (mg S f i) (mg S g i)) (S.2.1 1) 24)).2.1 1 y = (mdR (fun i => gop 2 (mg S f i) (mg S g i)) (S.2.1 1) 24) y from rfl, mdR, if_pos hy]; exact gop_lt ((mg_ok hb hf).1 y) ((mg_ok hb hg).1 y))) hO.r (ci := 2) rfl (lw_V q1851 q1853 qs31 q60 q1854) ⟨rfl, hdX3_puts⟩ rfl hl.1 rfl (Nat.le_of_ble_eq_true rfl) ⟨(Nat.le_of_ble_eq_true rfl), (Nat.le_of_ble_eq_true rfl)⟩ dX3_combine_185) (by omega) (by omega) (fun z_ H_ hp_ => ?_)
      obtain ⟨hz_, hM, hF2⟩ := hp_
      have hF := hF.tr hF2
      exact pb_iret C dX3_combine_188 (⟨_, rfl, hz_, hM, hF⟩)
    · refine pb_aload_n C dX3_combine_102 rfl (lv_at hl 0 rfl) ?_
      refine pb_iload_n C dX3_combine_103 rfl (lv_at hl 1 rfl) ?_
      refine pb_iload C dX3_combine_104 (lv_at hl 5 rfl) ?_
      refine pb_go_x (bc' := 0) (bs' := 0) (pb_runV (rest := []) C hG (met_X3_row l o (mB (mI S 0 0) 1 (mdR (fun i => gop 2 (mg S f i) (mg S g i)) (S.2.1 1) k)) hM f (by omega) ((k : Nat) : Int) (by omega)) hO.r (ci := 2) rfl (lw_V q1807 q1809 qs28 q60 q1810) ⟨rfl, hdX3_row⟩ rfl hl.1 rfl (Nat.le_of_ble_eq_true rfl) ⟨(Nat.le_of_ble_eq_true rfl), (Nat.le_of_ble_eq_true rfl)⟩ dX3_combine_106) (by omega) (by omega) ?_
      refine pb_eq (g2 := F0 m_ 109 ls [.int (iZ ((((mg S f k) : Nat) : Int)))]) (congrArg (fun z9 => F0 m_ 109 ls [.int (iZ z9)]) (show (((gr (mg (mB (mI S 0 0) 1 (mdR (fun i => gop 2 (mg S f i) (mg S g i)) (S.2.1 1) k)) f) ((k : Nat) : Int)) : Nat) : Int) = (((mg S f k) : Nat) : Int) from congrArg (fun n : Nat => (n : Int)) (gr_nat (mg S f) k))) ?_
      refine pb_istore C dX3_combine_109 hl (by decide) rfl fun ls hl => ?_
      have hl : lv_has ls 9 [(7, .int (iZ ((((mg S f k) : Nat) : Int)))), (0, .ref (o)), (2, .int (iZ (((f : Nat) : Int)))), (3, .int (iZ (((g : Nat) : Int)))), (4, .int (iZ (((t : Nat) : Int)))), (5, .int (iZ (2))), (6, .int (iZ (((k : Nat) : Int))))] := hl
      refine pb_aload_n C dX3_combine_111 rfl (lv_at hl 1 rfl) ?_
      refine pb_iload_n C dX3_combine_112 rfl (lv_at hl 3 rfl) ?_
      refine pb_iload C dX3_combine_113 (lv_at hl 6 rfl) ?_
      refine pb_go_x (bc' := 0) (bs' := 0) (pb_runV (rest := []) C hG (met_X3_row l o (mB (mI S 0 0) 1 (mdR (fun i => gop 2 (mg S f i) (mg S g i)) (S.2.1 1) k)) hM g (by omega) ((k : Nat) : Int) (by omega)) hO.r (ci := 2) rfl (lw_V q1807 q1809 qs28 q60 q1810) ⟨rfl, hdX3_row⟩ rfl hl.1 rfl (Nat.le_of_ble_eq_true rfl) ⟨(Nat.le_of_ble_eq_true rfl), (Nat.le_of_ble_eq_true rfl)⟩ dX3_combine_115) (by omega) (by omega) ?_
      refine pb_eq (g2 := F0 m_ 118 ls [.int (iZ ((((mg S g k) : Nat) : Int)))]) (congrArg (fun z9 => F0 m_ 118 ls [.int (iZ z9)]) (show (((gr (mg (mB (mI S 0 0) 1 (mdR (fun i => gop 2 (mg S f i) (mg S g i)) (S.2.1 1) k)) g) ((k : Nat) : Int)) : Nat) : Int) = (((mg S g k) : Nat) : Int) from congrArg (fun n : Nat => (n : Int)) (gr_nat (mg S g) k))) ?_
      refine pb_istore C dX3_combine_118 hl (by decide) rfl fun ls hl => ?_
      have hl : lv_has ls 9 [(8, .int (iZ ((((mg S g k) : Nat) : Int)))), (7, .int (iZ ((((mg S f k) : Nat) : Int)))), (0, .ref (o)), (2, .int (iZ (((f : Nat) : Int)))), (3, .int (iZ (((g : Nat) : Int)))), (4, .int (iZ (((t : Nat) : Int)))), (5, .int (iZ (2))), (6, .int (iZ (((k : Nat) : Int))))] := hl
      refine pb_aload_n C dX3_combine_120 rfl (lv_at hl 2 rfl) ?_
      refine pb_get C in_X3 hO.r (ci := 2) rfl 3 (by decide) q1740 (fun _ h9 => h9) (v := .ref (o + 2)) rfl dX3_combine_121 ?_
      refine pb_iload C dX3_combine_124 (lv_at hl 7 rfl) ?_
      refine pb_iload C dX3_combine_126 (lv_at hl 6 rfl) ?_
      refine pb_ic C dX3_combine_128 ?_
      refine pb_icmp_ne C dX3_combine_129 (x := 2) (y := 1) (tgt := 140) (by decide) (by omega) (by omega) (fun c129_ => ?_) (fun c129_ => ?_)
      · refine pb_iload C dX3_combine_140 (lv_at hl 6 rfl) ?_
        refine pb_ic C dX3_combine_142 ?_
        refine pb_icmp_ne C dX3_combine_143 (x := 2) (y := 2) (tgt := 154) (by decide) (by omega) (by omega) (fun c143_ => ?_) (fun c143_ => ?_)
        · exact absurd c143_ (by decide)
        · refine pb_iload C dX3_combine_146 (lv_at hl 1 rfl) ?_
          refine pb_iload C dX3_combine_148 (lv_at hl 0 rfl) ?_
          refine pb_iand C dX3_combine_150 (x := (mg S f k)) (y := (mg S g k)) ?_
          refine pb_goto C dX3_combine_151 (tgt := 175) (by decide) ?_
          refine pb_iast C hA2 (i := ((k : Nat) : Int)) (by omega) (by omega) dX3_combine_175 fun H1_ hu_ hA2 => ?_
          rw [pb_upN, Int.toNat_natCast, mdR_step (fun i => gop 2 (mg S f i) (mg S g i)) _ k (v := ((mg S f k) &&& (mg S g k))) rfl] at hA2
          have hG := hG.kept (hu_.z (by omega))
          have hO := hO.kept (hu_.2 _ (by omega))
          have hA1 := hA1.kept (hu_.2 _ (by omega))
          have hA3 := hA3.kept (hu_.2 _ (by omega))
          have hA4 := hA4.kept (hu_.2 _ (by omega))
          have hA5 := hA5.kept (hu_.2 _ (by omega))
          have hA6 := hA6.kept (hu_.2 _ (by omega))
          have hA7 := hA7.kept (hu_.2 _ (by omega))
          have hA8 := hA8.kept (hu_.2 _ (by omega))
          have hA9 := hA9.kept (hu_.2 _ (by omega))
          have hA10 := hA10.kept (hu_.2 _ (by omega))
          have hA11 := hA11.kept (hu_.2 _ (by omega))
          have hA12 := hA12.kept (hu_.2 _ (by omega))
          have hF := hF.up hu_ (by omega)
          refine pb_iinc C dX3_combine_176 hl (j := 7) (x := (((k : Nat) : Int))) rfl (by decide) rfl fun ls hl => ?_
          have hl : lv_has ls 9 [(6, .int (iZ ((((k + 1) : Nat) : Int)))), (8, .int (iZ ((((mg S g k) : Nat) : Int)))), (7, .int (iZ ((((mg S f k) : Nat) : Int)))), (0, .ref (o)), (2, .int (iZ (((f : Nat) : Int)))), (3, .int (iZ (((g : Nat) : Int)))), (4, .int (iZ (((t : Nat) : Int)))), (5, .int (iZ (2)))] := hl
          refine pb_goto C dX3_combine_179 (tgt := 95) (by decide) ?_
          exact pb_V.mono (by omega) (by omega) (ih95 _ (by omega) (k + 1) H1_ rfl hG (by omega) ⟨hz, hO, hA1, hA2, hA3, hA4, hA5, hA6, hA7, hA8, hA9, hA10, hA11, hA12⟩ hF ls (lv_sub hl [3, 4, 5, 6, 7, 0] rfl))
      · exact absurd c129_ (by decide)
  refine pb_iload_n C dX3_combine_0 rfl (lv_at hl 1 rfl) ?_
  refine pb_bip C dX3_combine_1 (by decide) ?_
  refine pb_icmp_ne C dX3_combine_3 (x := 105) (y := 117) (tgt := 10) (by decide) (by omega) (by omega) (fun c3_ => ?_) (fun c3_ => ?_)
  · refine pb_iload_n C dX3_combine_10 rfl (lv_at hl 1 rfl) ?_
    refine pb_bip C dX3_combine_11 (by decide) ?_
    refine pb_icmp_ne C dX3_combine_13 (x := 105) (y := 105) (tgt := 20) (by decide) (by omega) (by omega) (fun c13_ => ?_) (fun c13_ => ?_)
    · exact absurd c13_ (by decide)
    · refine pb_ic C dX3_combine_16 ?_
      refine pb_goto C dX3_combine_17 (tgt := 41) (by decide) ?_
      refine pb_istore C dX3_combine_41 hl (by decide) rfl fun ls hl => ?_
      have hl : lv_has ls 9 [(5, .int (iZ (2))), (0, .ref (o)), (1, .int (iZ (105))), (2, .int (iZ (((f : Nat) : Int)))), (3, .int (iZ (((g : Nat) : Int)))), (4, .int (iZ (((t : Nat) : Int))))] := hl
      refine pb_aload_n C dX3_combine_43 rfl (lv_at hl 1 rfl) ?_
      refine pb_iload_n C dX3_combine_44 rfl (lv_at hl 3 rfl) ?_
      refine pb_go_x (bc' := 0) (bs' := 0) (pb_runS (rest := [.ref (o)]) C hG (met_X3_isSheet l (((f : Nat) : Int)) (by omega)) (lw_S q1794 q1795 q60 q1796) hdX3_isSheet rfl hl.1 rfl (Nat.le_of_ble_eq_true rfl) ⟨(Nat.le_of_ble_eq_true rfl), (Nat.le_of_ble_eq_true rfl)⟩ dX3_combine_45) (by omega) (by omega) ?_
      refine pb_ifB_eq C dX3_combine_48 (tgt := 66) (by decide) (fun c48_ => ?_) (fun c48_ => ?_)
      · have c48_ := of_decide_eq_false c48_
        omega
      · have c48_ := of_decide_eq_true c48_
        refine pb_iload_n C dX3_combine_51 rfl (lv_at hl 4 rfl) ?_
        refine pb_go_x (bc' := 0) (bs' := 0) (pb_runS (rest := [.ref (o)]) C hG (met_X3_isSheet l (((g : Nat) : Int)) (by omega)) (lw_S q1794 q1795 q60 q1796) hdX3_isSheet rfl hl.1 rfl (Nat.le_of_ble_eq_true rfl) ⟨(Nat.le_of_ble_eq_true rfl), (Nat.le_of_ble_eq_true rfl)⟩ dX3_combine_52) (by omega) (by omega) ?_
        refine pb_ifB_eq C dX3_combine_55 (tgt := 66) (by decide) (fun c55_ => ?_) (fun c55_ => ?_)
        · have c55_ := of_decide_eq_false c55_
          omega
        · have c55_ := of_decide_eq_true c55_
          refine pb_iload C dX3_combine_58 (lv_at hl 5 rfl) ?_
          refine pb_go_x (bc' := 0) (bs' := 0) (pb_runS (rest := [.ref (o)]) C hG (met_X3_isSheet l (((t : Nat) : Int)) (by omega)) (lw_S q1794 q1795 q60 q1796) hdX3_isSheet rfl hl.1 rfl (Nat.le_of_ble_eq_true rfl) ⟨(Nat.le_of_ble_eq_true rfl), (Nat.le_of_ble_eq_true rfl)⟩ dX3_combine_60) (by omega) (by omega) ?_
          refine pb_ifB_ne C dX3_combine_63 (tgt := 70) (by decide) (fun c63_ => ?_) (fun c63_ => ?_)
          · have c63_ := of_decide_eq_true c63_
            refine pb_iload C dX3_combine_70 (lv_at hl 0 rfl) ?_
            refine pb_if_ne C dX3_combine_72 (x := 2) (tgt := 79) (by decide) (by omega) (fun c72_ => ?_) (fun c72_ => ?_)
            · refine pb_ic C dX3_combine_79 ?_
              refine pb_put C in_X3 tyX3 tyX3_ok nmX3 hO (ci := 2) rfl 0 (by decide) q1737 (fun _ h9 => h9) rfl (v := .int (iZ (0))) rfl rfl (Nat.le_of_ble_eq_true rfl) (by omega) dX3_combine_80 fun H2_ hu_ hO => ?_
              have hO : pb_O w H2_ (o) 2 [.int (iZ (0)), .int (iZ ((S.1 1))), .ref (o + 1), .ref (o + 2), .ref (o + 3), .ref (o + 4), .ref (o + 5), .ref (o + 6), .ref (o + 7), .ref (o + 8), .ref (o + 9), .ref (o + 10), .ref (o + 11), .ref (o + 12), .int (iZ ((S.1 2))), .int (iZ ((S.1 3)))] := hO
              have hG := hG.kept (hu_.z (by omega))
              have hA1 := hA1.kept (hu_.2 _ (by omega))
              have hA2 := hA2.kept (hu_.2 _ (by omega))
              have hA3 := hA3.kept (hu_.2 _ (by omega))
              have hA4 := hA4.kept (hu_.2 _ (by omega))
              have hA5 := hA5.kept (hu_.2 _ (by omega))
              have hA6 := hA6.kept (hu_.2 _ (by omega))
              have hA7 := hA7.kept (hu_.2 _ (by omega))
              have hA8 := hA8.kept (hu_.2 _ (by omega))
              have hA9 := hA9.kept (hu_.2 _ (by omega))
              have hA10 := hA10.kept (hu_.2 _ (by omega))
              have hA11 := hA11.kept (hu_.2 _ (by omega))
              have hA12 := hA12.kept (hu_.2 _ (by omega))
              have hF := hF.up hu_ (by omega)
              refine pb_aload_n C dX3_combine_83 rfl (lv_at hl 1 rfl) ?_
              refine pb_get C in_X3 hO.r (ci := 2) rfl 0 (by decide) q1737 (fun _ h9 => h9) (v := .int (iZ (0))) rfl dX3_combine_84 ?_
              refine pb_if_eq C dX3_combine_87 (x := 0) (tgt := 92) (by decide) (by omega) (fun c87_ => ?_) (fun c87_ => ?_)
              · refine pb_ic C dX3_combine_92 ?_
                refine pb_istore C dX3_combine_93 hl (by decide) rfl fun ls hl => ?_
                have hl : lv_has ls 9 [(6, .int (iZ (0))), (5, .int (iZ (2))), (0, .ref (o)), (1, .int (iZ (105))), (2, .int (iZ (((f : Nat) : Int)))), (3, .int (iZ (((g : Nat) : Int)))), (4, .int (iZ (((t : Nat) : Int))))] := hl
                exact pb_V.mono (by omega) (by omega) (L95 _ 0 H2_ rfl hG (by omega) (by rw [mdR_0]; exact ⟨hz, hO, hA1, hA2, hA3, hA4, hA5, hA6, hA7, hA8, hA9, hA10, hA11, hA12⟩) hF ls (lv_sub hl [2, 4, 5, 6, 1, 0] rfl))
              · exact absurd c87_ (by decide)
            · exact absurd c72_ (by decide)
          · have c63_ := of_decide_eq_false c63_
            omega
  · exact absurd c3_ (by decide)

set_option maxHeartbeats 1000000 in
theorem met_X3_combine_d {w : pb_W} (l : Launch) {H0 : Heap} (o : Nat) (S : mS) (hM : MW w H0 o S) (f g t : Nat) (hf : f < 8) (hg : g < 8) (ht : t < 8) (hb : mok S) : pb_M w l yX3_combine cX3_combine 9 (some .int) 6 (0) (0) [.ref (o), .int (iZ (100)), .int (iZ (((f : Nat) : Int))), .int (iZ (((g : Nat) : Int))), .int (iZ (((t : Nat) : Int)))] H0 (pb_qi (fun z H1 => z = ((cnt (mg (mB (mB (mI S 0 0) 1 (mdR (fun i => gop 3 (mg S f i) (mg S g i)) (S.2.1 1) 24)) 0 (rowsF (mB (mI S 0 0) 1 (mdR (fun i => gop 3 (mg S f i) (mg S g i)) (S.2.1 1) 24)) t 0 24 (mdR (fun i => gop 3 (mg S f i) (mg S g i)) (S.2.1 1) 24))) t) : Nat) : Int) ∧ MW w H1 o (mB (mB (mI S 0 0) 1 (mdR (fun i => gop 3 (mg S f i) (mg S g i)) (S.2.1 1) 24)) 0 (rowsF (mB (mI S 0 0) 1 (mdR (fun i => gop 3 (mg S f i) (mg S g i)) (S.2.1 1) 24)) t 0 24 (mdR (fun i => gop 3 (mg S f i) (mg S g i)) (S.2.1 1) 24))) ∧ mF o H0 H1)) := by
  refine pb_of (by decide +kernel) (Nat.le_of_ble_eq_true rfl) ?_
  intro p_ e_ s_ m_ ar_ bl_ me_ co_ ls C hh hG hl
  have hl : lv_has ls 9 [(0, .ref (o)), (1, .int (iZ (100))), (2, .int (iZ (((f : Nat) : Int)))), (3, .int (iZ (((g : Nat) : Int)))), (4, .int (iZ (((t : Nat) : Int))))] := hl
  have hM0 := hM; obtain ⟨hz, hO, hA1, hA2, hA3, hA4, hA5, hA6, hA7, hA8, hA9, hA10, hA11, hA12⟩ := hM0
  have hF : mF o H0 H0 := mF.rf
  have L95 : ∀ (n_ : Nat) (k : Nat) (H : Heap), 24 - k = n_ → (pb_G w s_ H) → (k ≤ 24) → (MW w H o (mB (mI S 0 0) 1 (mdR (fun i => gop 3 (mg S f i) (mg S g i)) (S.2.1 1) k))) → (mF o H0 H) → ∀ (ls : Array Slot), lv_has ls 9 [(0, .ref (o)), (2, .int (iZ (((f : Nat) : Int)))), (3, .int (iZ (((g : Nat) : Int)))), (4, .int (iZ (((t : Nat) : Int)))), (5, .int (iZ (3))), (6, .int (iZ (((k : Nat) : Int))))] → pb_V w.2.2.2 p_ l e_ (pb_rm 6 (0) (0)) s_ m_ ar_ bl_ me_ co_ H (0) (0) (pb_E w bl_ ar_ s_ (0) (0) (pb_qi (fun z H1 => z = ((cnt (mg (mB (mB (mI S 0 0) 1 (mdR (fun i => gop 3 (mg S f i) (mg S g i)) (S.2.1 1) 24)) 0 (rowsF (mB (mI S 0 0) 1 (mdR (fun i => gop 3 (mg S f i) (mg S g i)) (S.2.1 1) 24)) t 0 24 (mdR (fun i => gop 3 (mg S f i) (mg S g i)) (S.2.1 1) 24))) t) : Nat) : Int) ∧ MW w H1 o (mB (mB (mI S 0 0) 1 (mdR (fun i => gop 3 (mg S f i) (mg S g i)) (S.2.1 1) 24)) 0 (rowsF (mB (mI S 0 0) 1 (mdR (fun i => gop 3 (mg S f i) (mg S g i)) (S.2.1 1) 24)) t 0 24 (mdR (fun i => gop 3 (mg S f i) (mg S g i)) (S.2.1 1) 24))) ∧ mF o H0 H1))) (F0 m_ 95 ls []) := by
    intro n_
    induction n_ using Nat.strongRecOn with
    | _ n_ ih95 =>
    intro k H hm_ hG hk hM hF ls hl
    have hM0 := hM; obtain ⟨hz, hO, hA1, hA2, hA3, hA4, hA5, hA6, hA7, hA8, hA9, hA10, hA11, hA12⟩ := hM0
    have hO : pb_O w H o 2 [.int (iZ ((0))), .int (iZ ((S.1 1))), .ref (o + 1), .ref (o + 2), .ref (o + 3), .ref (o + 4), .ref (o + 5), .ref (o + 6), .ref (o + 7), .ref (o + 8), .ref (o + 9), .ref (o + 10), .ref (o + 11), .ref (o + 12), .int (iZ ((S.1 2))), .int (iZ ((S.1 3)))] := hO
    have hA1 : pb_A w H (o + 1) 0 192 (pb_nf (S.2.1 0)) := hA1
    have hA2 : pb_A w H (o + 2) 0 24 (pb_nf (mdR (fun i => gop 3 (mg S f i) (mg S g i)) (S.2.1 1) k)) := hA2
    have hA3 : pb_A w H (o + 3) 0 26 (pb_nf (S.2.1 2)) := hA3
    have hA4 : pb_A w H (o + 4) 0 26 (pb_nf (S.2.1 3)) := hA4
    have hA5 : pb_A w H (o + 5) 0 40 (pb_zf (S.2.2 0)) := hA5
    have hA6 : pb_A w H (o + 6) 0 40 (pb_zf (S.2.2 1)) := hA6
    have hA7 : pb_A w H (o + 7) 0 576 (pb_zf (S.2.2 2)) := hA7
    have hA8 : pb_A w H (o + 8) 0 1300 (pb_zf (S.2.2 3)) := hA8
    have hA9 : pb_A w H (o + 9) 0 1300 (pb_zf (S.2.2 4)) := hA9
    have hA10 : pb_A w H (o + 10) 0 400 (pb_zf (S.2.2 5)) := hA10
    have hA11 : pb_A w H (o + 11) 0 400 (pb_zf (S.2.2 6)) := hA11
    have hA12 : pb_A w H (o + 12) 0 625 (pb_nf (S.2.1 4)) := hA12
    refine pb_iload C dX3_combine_95 (lv_at hl 5 rfl) ?_
    refine pb_bip C dX3_combine_97 (by decide) ?_
    refine pb_icmp_ge C dX3_combine_99 (x := ((k : Nat) : Int)) (y := 24) (tgt := 182) (by decide) (by omega) (by omega) (fun c99_ => ?_) (fun c99_ => ?_)
    · obtain rfl : k = 24 := by omega
      refine pb_aload_n C dX3_combine_182 rfl (lv_at hl 0 rfl) ?_
      refine pb_iload C dX3_combine_183 (lv_at hl 3 rfl) ?_
      refine pb_go_i (bc' := 0) (bs' := 0) (pb_runV (rest := []) C hG (met_X3_puts l o (mB (mI S 0 0) 1 (mdR (fun i => gop 3 (mg S f i) (mg S g i)) (S.2.1 1) 24)) hM t ht hb (fun y hy => by rw [show (mB (mI S 0 0) 1 (mdR (fun i => gop 3 (mg S f i) (mg S g i)) (S.2.1 1) 24)).2.1 1 y = (mdR (fun i => gop 3 (mg S f i) (mg S g i)) (S.2.1 1) 24) y from rfl, mdR, if_pos hy]; exact gop_lt ((mg_ok hb hf).1 y) ((mg_ok hb hg).1 y))) hO.r (ci := 2) rfl (lw_V q1851 q1853 qs31 q60 q1854) ⟨rfl, hdX3_puts⟩ rfl hl.1 rfl (Nat.le_of_ble_eq_true rfl) ⟨(Nat.le_of_ble_eq_true rfl), (Nat.le_of_ble_eq_true rfl)⟩ dX3_combine_185) (by omega) (by omega) (fun z_ H_ hp_ => ?_)
      obtain ⟨hz_, hM, hF2⟩ := hp_
      have hF := hF.tr hF2
      exact pb_iret C dX3_combine_188 (⟨_, rfl, hz_, hM, hF⟩)
    · refine pb_aload_n C dX3_combine_102 rfl (lv_at hl 0 rfl) ?_
      refine pb_iload_n C dX3_combine_103 rfl (lv_at hl 1 rfl) ?_
      refine pb_iload C dX3_combine_104 (lv_at hl 5 rfl) ?_
      refine pb_go_x (bc' := 0) (bs' := 0) (pb_runV (rest := []) C hG (met_X3_row l o (mB (mI S 0 0) 1 (mdR (fun i => gop 3 (mg S f i) (mg S g i)) (S.2.1 1) k)) hM f (by omega) ((k : Nat) : Int) (by omega)) hO.r (ci := 2) rfl (lw_V q1807 q1809 qs28 q60 q1810) ⟨rfl, hdX3_row⟩ rfl hl.1 rfl (Nat.le_of_ble_eq_true rfl) ⟨(Nat.le_of_ble_eq_true rfl), (Nat.le_of_ble_eq_true rfl)⟩ dX3_combine_106) (by omega) (by omega) ?_
      refine pb_eq (g2 := F0 m_ 109 ls [.int (iZ ((((mg S f k) : Nat) : Int)))]) (congrArg (fun z9 => F0 m_ 109 ls [.int (iZ z9)]) (show (((gr (mg (mB (mI S 0 0) 1 (mdR (fun i => gop 3 (mg S f i) (mg S g i)) (S.2.1 1) k)) f) ((k : Nat) : Int)) : Nat) : Int) = (((mg S f k) : Nat) : Int) from congrArg (fun n : Nat => (n : Int)) (gr_nat (mg S f) k))) ?_
      refine pb_istore C dX3_combine_109 hl (by decide) rfl fun ls hl => ?_
      have hl : lv_has ls 9 [(7, .int (iZ ((((mg S f k) : Nat) : Int)))), (0, .ref (o)), (2, .int (iZ (((f : Nat) : Int)))), (3, .int (iZ (((g : Nat) : Int)))), (4, .int (iZ (((t : Nat) : Int)))), (5, .int (iZ (3))), (6, .int (iZ (((k : Nat) : Int))))] := hl
      refine pb_aload_n C dX3_combine_111 rfl (lv_at hl 1 rfl) ?_
      refine pb_iload_n C dX3_combine_112 rfl (lv_at hl 3 rfl) ?_
      refine pb_iload C dX3_combine_113 (lv_at hl 6 rfl) ?_
      refine pb_go_x (bc' := 0) (bs' := 0) (pb_runV (rest := []) C hG (met_X3_row l o (mB (mI S 0 0) 1 (mdR (fun i => gop 3 (mg S f i) (mg S g i)) (S.2.1 1) k)) hM g (by omega) ((k : Nat) : Int) (by omega)) hO.r (ci := 2) rfl (lw_V q1807 q1809 qs28 q60 q1810) ⟨rfl, hdX3_row⟩ rfl hl.1 rfl (Nat.le_of_ble_eq_true rfl) ⟨(Nat.le_of_ble_eq_true rfl), (Nat.le_of_ble_eq_true rfl)⟩ dX3_combine_115) (by omega) (by omega) ?_
      refine pb_eq (g2 := F0 m_ 118 ls [.int (iZ ((((mg S g k) : Nat) : Int)))]) (congrArg (fun z9 => F0 m_ 118 ls [.int (iZ z9)]) (show (((gr (mg (mB (mI S 0 0) 1 (mdR (fun i => gop 3 (mg S f i) (mg S g i)) (S.2.1 1) k)) g) ((k : Nat) : Int)) : Nat) : Int) = (((mg S g k) : Nat) : Int) from congrArg (fun n : Nat => (n : Int)) (gr_nat (mg S g) k))) ?_
      refine pb_istore C dX3_combine_118 hl (by decide) rfl fun ls hl => ?_
      have hl : lv_has ls 9 [(8, .int (iZ ((((mg S g k) : Nat) : Int)))), (7, .int (iZ ((((mg S f k) : Nat) : Int)))), (0, .ref (o)), (2, .int (iZ (((f : Nat) : Int)))), (3, .int (iZ (((g : Nat) : Int)))), (4, .int (iZ (((t : Nat) : Int)))), (5, .int (iZ (3))), (6, .int (iZ (((k : Nat) : Int))))] := hl
      refine pb_aload_n C dX3_combine_120 rfl (lv_at hl 2 rfl) ?_
      refine pb_get C in_X3 hO.r (ci := 2) rfl 3 (by decide) q1740 (fun _ h9 => h9) (v := .ref (o + 2)) rfl dX3_combine_121 ?_
      refine pb_iload C dX3_combine_124 (lv_at hl 7 rfl) ?_
      refine pb_iload C dX3_combine_126 (lv_at hl 6 rfl) ?_
      refine pb_ic C dX3_combine_128 ?_
      refine pb_icmp_ne C dX3_combine_129 (x := 3) (y := 1) (tgt := 140) (by decide) (by omega) (by omega) (fun c129_ => ?_) (fun c129_ => ?_)
      · refine pb_iload C dX3_combine_140 (lv_at hl 6 rfl) ?_
        refine pb_ic C dX3_combine_142 ?_
        refine pb_icmp_ne C dX3_combine_143 (x := 3) (y := 2) (tgt := 154) (by decide) (by omega) (by omega) (fun c143_ => ?_) (fun c143_ => ?_)
        · refine pb_iload C dX3_combine_154 (lv_at hl 6 rfl) ?_
          refine pb_ic C dX3_combine_156 ?_
          refine pb_icmp_ne C dX3_combine_157 (x := 3) (y := 3) (tgt := 170) (by decide) (by omega) (by omega) (fun c157_ => ?_) (fun c157_ => ?_)
          · exact absurd c157_ (by decide)
          · refine pb_iload C dX3_combine_160 (lv_at hl 1 rfl) ?_
            refine pb_iload C dX3_combine_162 (lv_at hl 0 rfl) ?_
            refine pb_ic C dX3_combine_164 ?_
            refine pb_inot C dX3_combine_165 (x := (((mg S g k) : Nat) : Int)) ?_
            refine pb_iandn C dX3_combine_166 (x := (mg S f k)) (y := (mg S g k)) ?_
            refine pb_goto C dX3_combine_167 (tgt := 175) (by decide) ?_
            refine pb_iast C hA2 (i := ((k : Nat) : Int)) (by omega) (by omega) dX3_combine_175 fun H1_ hu_ hA2 => ?_
            rw [pb_upN, Int.toNat_natCast, mdR_step (fun i => gop 3 (mg S f i) (mg S g i)) _ k (v := (pb_dif ((mg S f k)) ((mg S g k)))) rfl] at hA2
            have hG := hG.kept (hu_.z (by omega))
            have hO := hO.kept (hu_.2 _ (by omega))
            have hA1 := hA1.kept (hu_.2 _ (by omega))
            have hA3 := hA3.kept (hu_.2 _ (by omega))
            have hA4 := hA4.kept (hu_.2 _ (by omega))
            have hA5 := hA5.kept (hu_.2 _ (by omega))
            have hA6 := hA6.kept (hu_.2 _ (by omega))
            have hA7 := hA7.kept (hu_.2 _ (by omega))
            have hA8 := hA8.kept (hu_.2 _ (by omega))
            have hA9 := hA9.kept (hu_.2 _ (by omega))
            have hA10 := hA10.kept (hu_.2 _ (by omega))
            have hA11 := hA11.kept (hu_.2 _ (by omega))
            have hA12 := hA12.kept (hu_.2 _ (by omega))
            have hF := hF.up hu_ (by omega)
            refine pb_iinc C dX3_combine_176 hl (j := 7) (x := (((k : Nat) : Int))) rfl (by decide) rfl fun ls hl => ?_
            have hl : lv_has ls 9 [(6, .int (iZ ((((k + 1) : Nat) : Int)))), (8, .int (iZ ((((mg S g k) : Nat) : Int)))), (7, .int (iZ ((((mg S f k) : Nat) : Int)))), (0, .ref (o)), (2, .int (iZ (((f : Nat) : Int)))), (3, .int (iZ (((g : Nat) : Int)))), (4, .int (iZ (((t : Nat) : Int)))), (5, .int (iZ (3)))] := hl
            refine pb_goto C dX3_combine_179 (tgt := 95) (by decide) ?_
            exact pb_V.mono (by omega) (by omega) (ih95 _ (by omega) (k + 1) H1_ rfl hG (by omega) ⟨hz, hO, hA1, hA2, hA3, hA4, hA5, hA6, hA7, hA8, hA9, hA10, hA11, hA12⟩ hF ls (lv_sub hl [3, 4, 5, 6, 7, 0] rfl))
        · exact absurd c143_ (by decide)
      · exact absurd c129_ (by decide)
  refine pb_iload_n C dX3_combine_0 rfl (lv_at hl 1 rfl) ?_
  refine pb_bip C dX3_combine_1 (by decide) ?_
  refine pb_icmp_ne C dX3_combine_3 (x := 100) (y := 117) (tgt := 10) (by decide) (by omega) (by omega) (fun c3_ => ?_) (fun c3_ => ?_)
  · refine pb_iload_n C dX3_combine_10 rfl (lv_at hl 1 rfl) ?_
    refine pb_bip C dX3_combine_11 (by decide) ?_
    refine pb_icmp_ne C dX3_combine_13 (x := 100) (y := 105) (tgt := 20) (by decide) (by omega) (by omega) (fun c13_ => ?_) (fun c13_ => ?_)
    · refine pb_iload_n C dX3_combine_20 rfl (lv_at hl 1 rfl) ?_
      refine pb_bip C dX3_combine_21 (by decide) ?_
      refine pb_icmp_ne C dX3_combine_23 (x := 100) (y := 100) (tgt := 30) (by decide) (by omega) (by omega) (fun c23_ => ?_) (fun c23_ => ?_)
      · exact absurd c23_ (by decide)
      · refine pb_ic C dX3_combine_26 ?_
        refine pb_goto C dX3_combine_27 (tgt := 41) (by decide) ?_
        refine pb_istore C dX3_combine_41 hl (by decide) rfl fun ls hl => ?_
        have hl : lv_has ls 9 [(5, .int (iZ (3))), (0, .ref (o)), (1, .int (iZ (100))), (2, .int (iZ (((f : Nat) : Int)))), (3, .int (iZ (((g : Nat) : Int)))), (4, .int (iZ (((t : Nat) : Int))))] := hl
        refine pb_aload_n C dX3_combine_43 rfl (lv_at hl 1 rfl) ?_
        refine pb_iload_n C dX3_combine_44 rfl (lv_at hl 3 rfl) ?_
        refine pb_go_x (bc' := 0) (bs' := 0) (pb_runS (rest := [.ref (o)]) C hG (met_X3_isSheet l (((f : Nat) : Int)) (by omega)) (lw_S q1794 q1795 q60 q1796) hdX3_isSheet rfl hl.1 rfl (Nat.le_of_ble_eq_true rfl) ⟨(Nat.le_of_ble_eq_true rfl), (Nat.le_of_ble_eq_true rfl)⟩ dX3_combine_45) (by omega) (by omega) ?_
        refine pb_ifB_eq C dX3_combine_48 (tgt := 66) (by decide) (fun c48_ => ?_) (fun c48_ => ?_)
        · have c48_ := of_decide_eq_false c48_
          omega
        · have c48_ := of_decide_eq_true c48_
          refine pb_iload_n C dX3_combine_51 rfl (lv_at hl 4 rfl) ?_
          refine pb_go_x (bc' := 0) (bs' := 0) (pb_runS (rest := [.ref (o)]) C hG (met_X3_isSheet l (((g : Nat) : Int)) (by omega)) (lw_S q1794 q1795 q60 q1796) hdX3_isSheet rfl hl.1 rfl (Nat.le_of_ble_eq_true rfl) ⟨(Nat.le_of_ble_eq_true rfl), (Nat.le_of_ble_eq_true rfl)⟩ dX3_combine_52) (by omega) (by omega) ?_
          refine pb_ifB_eq C dX3_combine_55 (tgt := 66) (by decide) (fun c55_ => ?_) (fun c55_ => ?_)
          · have c55_ := of_decide_eq_false c55_
            omega
          · have c55_ := of_decide_eq_true c55_
            refine pb_iload C dX3_combine_58 (lv_at hl 5 rfl) ?_
            refine pb_go_x (bc' := 0) (bs' := 0) (pb_runS (rest := [.ref (o)]) C hG (met_X3_isSheet l (((t : Nat) : Int)) (by omega)) (lw_S q1794 q1795 q60 q1796) hdX3_isSheet rfl hl.1 rfl (Nat.le_of_ble_eq_true rfl) ⟨(Nat.le_of_ble_eq_true rfl), (Nat.le_of_ble_eq_true rfl)⟩ dX3_combine_60) (by omega) (by omega) ?_
            refine pb_ifB_ne C dX3_combine_63 (tgt := 70) (by decide) (fun c63_ => ?_) (fun c63_ => ?_)
            · have c63_ := of_decide_eq_true c63_
              refine pb_iload C dX3_combine_70 (lv_at hl 0 rfl) ?_
              refine pb_if_ne C dX3_combine_72 (x := 3) (tgt := 79) (by decide) (by omega) (fun c72_ => ?_) (fun c72_ => ?_)
              · refine pb_ic C dX3_combine_79 ?_
                refine pb_put C in_X3 tyX3 tyX3_ok nmX3 hO (ci := 2) rfl 0 (by decide) q1737 (fun _ h9 => h9) rfl (v := .int (iZ (0))) rfl rfl (Nat.le_of_ble_eq_true rfl) (by omega) dX3_combine_80 fun H2_ hu_ hO => ?_
                have hO : pb_O w H2_ (o) 2 [.int (iZ (0)), .int (iZ ((S.1 1))), .ref (o + 1), .ref (o + 2), .ref (o + 3), .ref (o + 4), .ref (o + 5), .ref (o + 6), .ref (o + 7), .ref (o + 8), .ref (o + 9), .ref (o + 10), .ref (o + 11), .ref (o + 12), .int (iZ ((S.1 2))), .int (iZ ((S.1 3)))] := hO
                have hG := hG.kept (hu_.z (by omega))
                have hA1 := hA1.kept (hu_.2 _ (by omega))
                have hA2 := hA2.kept (hu_.2 _ (by omega))
                have hA3 := hA3.kept (hu_.2 _ (by omega))
                have hA4 := hA4.kept (hu_.2 _ (by omega))
                have hA5 := hA5.kept (hu_.2 _ (by omega))
                have hA6 := hA6.kept (hu_.2 _ (by omega))
                have hA7 := hA7.kept (hu_.2 _ (by omega))
                have hA8 := hA8.kept (hu_.2 _ (by omega))
                have hA9 := hA9.kept (hu_.2 _ (by omega))
                have hA10 := hA10.kept (hu_.2 _ (by omega))
                have hA11 := hA11.kept (hu_.2 _ (by omega))
                have hA12 := hA12.kept (hu_.2 _ (by omega))
                have hF := hF.up hu_ (by omega)
                refine pb_aload_n C dX3_combine_83 rfl (lv_at hl 1 rfl) ?_
                refine pb_get C in_X3 hO.r (ci := 2) rfl 0 (by decide) q1737 (fun _ h9 => h9) (v := .int (iZ (0))) rfl dX3_combine_84 ?_
                refine pb_if_eq C dX3_combine_87 (x := 0) (tgt := 92) (by decide) (by omega) (fun c87_ => ?_) (fun c87_ => ?_)
                · refine pb_ic C dX3_combine_92 ?_
                  refine pb_istore C dX3_combine_93 hl (by decide) rfl fun ls hl => ?_
                  have hl : lv_has ls 9 [(6, .int (iZ (0))), (5, .int (iZ (3))), (0, .ref (o)), (1, .int (iZ (100))), (2, .int (iZ (((f : Nat) : Int)))), (3, .int (iZ (((g : Nat) : Int)))), (4, .int (iZ (((t : Nat) : Int))))] := hl
                  exact pb_V.mono (by omega) (by omega) (L95 _ 0 H2_ rfl hG (by omega) (by rw [mdR_0]; exact ⟨hz, hO, hA1, hA2, hA3, hA4, hA5, hA6, hA7, hA8, hA9, hA10, hA11, hA12⟩) hF ls (lv_sub hl [2, 4, 5, 6, 1, 0] rfl))
                · exact absurd c87_ (by decide)
              · exact absurd c72_ (by decide)
            · have c63_ := of_decide_eq_false c63_
              omega
    · exact absurd c13_ (by decide)
  · exact absurd c3_ (by decide)

set_option maxHeartbeats 1000000 in
theorem met_X3_combine_x {w : pb_W} (l : Launch) {H0 : Heap} (o : Nat) (S : mS) (hM : MW w H0 o S) (f g t : Nat) (hf : f < 8) (hg : g < 8) (ht : t < 8) (hb : mok S) : pb_M w l yX3_combine cX3_combine 9 (some .int) 6 (0) (0) [.ref (o), .int (iZ (120)), .int (iZ (((f : Nat) : Int))), .int (iZ (((g : Nat) : Int))), .int (iZ (((t : Nat) : Int)))] H0 (pb_qi (fun z H1 => z = ((cnt (mg (mB (mB (mI S 0 0) 1 (mdR (fun i => gop 4 (mg S f i) (mg S g i)) (S.2.1 1) 24)) 0 (rowsF (mB (mI S 0 0) 1 (mdR (fun i => gop 4 (mg S f i) (mg S g i)) (S.2.1 1) 24)) t 0 24 (mdR (fun i => gop 4 (mg S f i) (mg S g i)) (S.2.1 1) 24))) t) : Nat) : Int) ∧ MW w H1 o (mB (mB (mI S 0 0) 1 (mdR (fun i => gop 4 (mg S f i) (mg S g i)) (S.2.1 1) 24)) 0 (rowsF (mB (mI S 0 0) 1 (mdR (fun i => gop 4 (mg S f i) (mg S g i)) (S.2.1 1) 24)) t 0 24 (mdR (fun i => gop 4 (mg S f i) (mg S g i)) (S.2.1 1) 24))) ∧ mF o H0 H1)) := by
  refine pb_of (by decide +kernel) (Nat.le_of_ble_eq_true rfl) ?_
  intro p_ e_ s_ m_ ar_ bl_ me_ co_ ls C hh hG hl
  have hl : lv_has ls 9 [(0, .ref (o)), (1, .int (iZ (120))), (2, .int (iZ (((f : Nat) : Int)))), (3, .int (iZ (((g : Nat) : Int)))), (4, .int (iZ (((t : Nat) : Int))))] := hl
  have hM0 := hM; obtain ⟨hz, hO, hA1, hA2, hA3, hA4, hA5, hA6, hA7, hA8, hA9, hA10, hA11, hA12⟩ := hM0
  have hF : mF o H0 H0 := mF.rf
  have L95 : ∀ (n_ : Nat) (k : Nat) (H : Heap), 24 - k = n_ → (pb_G w s_ H) → (k ≤ 24) → (MW w H o (mB (mI S 0 0) 1 (mdR (fun i => gop 4 (mg S f i) (mg S g i)) (S.2.1 1) k))) → (mF o H0 H) → ∀ (ls : Array Slot), lv_has ls 9 [(0, .ref (o)), (2, .int (iZ (((f : Nat) : Int)))), (3, .int (iZ (((g : Nat) : Int)))), (4, .int (iZ (((t : Nat) : Int)))), (5, .int (iZ (4))), (6, .int (iZ (((k : Nat) : Int))))] → pb_V w.2.2.2 p_ l e_ (pb_rm 6 (0) (0)) s_ m_ ar_ bl_ me_ co_ H (0) (0) (pb_E w bl_ ar_ s_ (0) (0) (pb_qi (fun z H1 => z = ((cnt (mg (mB (mB (mI S 0 0) 1 (mdR (fun i => gop 4 (mg S f i) (mg S g i)) (S.2.1 1) 24)) 0 (rowsF (mB (mI S 0 0) 1 (mdR (fun i => gop 4 (mg S f i) (mg S g i)) (S.2.1 1) 24)) t 0 24 (mdR (fun i => gop 4 (mg S f i) (mg S g i)) (S.2.1 1) 24))) t) : Nat) : Int) ∧ MW w H1 o (mB (mB (mI S 0 0) 1 (mdR (fun i => gop 4 (mg S f i) (mg S g i)) (S.2.1 1) 24)) 0 (rowsF (mB (mI S 0 0) 1 (mdR (fun i => gop 4 (mg S f i) (mg S g i)) (S.2.1 1) 24)) t 0 24 (mdR (fun i => gop 4 (mg S f i) (mg S g i)) (S.2.1 1) 24))) ∧ mF o H0 H1))) (F0 m_ 95 ls []) := by
    intro n_
    induction n_ using Nat.strongRecOn with
    | _ n_ ih95 =>
    intro k H hm_ hG hk hM hF ls hl
    have hM0 := hM; obtain ⟨hz, hO, hA1, hA2, hA3, hA4, hA5, hA6, hA7, hA8, hA9, hA10, hA11, hA12⟩ := hM0
    have hO : pb_O w H o 2 [.int (iZ ((0))), .int (iZ ((S.1 1))), .ref (o + 1), .ref (o + 2), .ref (o + 3), .ref (o + 4), .ref (o + 5), .ref (o + 6), .ref (o + 7), .ref (o + 8), .ref (o + 9), .ref (o + 10), .ref (o + 11), .ref (o + 12), .int (iZ ((S.1 2))), .int (iZ ((S.1 3)))] := hO
    have hA1 : pb_A w H (o + 1) 0 192 (pb_nf (S.2.1 0)) := hA1
    have hA2 : pb_A w H (o + 2) 0 24 (pb_nf (mdR (fun i => gop 4 (mg S f i) (mg S g i)) (S.2.1 1) k)) := hA2
    have hA3 : pb_A w H (o + 3) 0 26 (pb_nf (S.2.1 2)) := hA3
    have hA4 : pb_A w H (o + 4) 0 26 (pb_nf (S.2.1 3)) := hA4
    have hA5 : pb_A w H (o + 5) 0 40 (pb_zf (S.2.2 0)) := hA5
    have hA6 : pb_A w H (o + 6) 0 40 (pb_zf (S.2.2 1)) := hA6
    have hA7 : pb_A w H (o + 7) 0 576 (pb_zf (S.2.2 2)) := hA7
    have hA8 : pb_A w H (o + 8) 0 1300 (pb_zf (S.2.2 3)) := hA8
    have hA9 : pb_A w H (o + 9) 0 1300 (pb_zf (S.2.2 4)) := hA9
    have hA10 : pb_A w H (o + 10) 0 400 (pb_zf (S.2.2 5)) := hA10
    have hA11 : pb_A w H (o + 11) 0 400 (pb_zf (S.2.2 6)) := hA11
    have hA12 : pb_A w H (o + 12) 0 625 (pb_nf (S.2.1 4)) := hA12
    refine pb_iload C dX3_combine_95 (lv_at hl 5 rfl) ?_
    refine pb_bip C dX3_combine_97 (by decide) ?_
    refine pb_icmp_ge C dX3_combine_99 (x := ((k : Nat) : Int)) (y := 24) (tgt := 182) (by decide) (by omega) (by omega) (fun c99_ => ?_) (fun c99_ => ?_)
    · obtain rfl : k = 24 := by omega
      refine pb_aload_n C dX3_combine_182 rfl (lv_at hl 0 rfl) ?_
      refine pb_iload C dX3_combine_183 (lv_at hl 3 rfl) ?_
      refine pb_go_i (bc' := 0) (bs' := 0) (pb_runV (rest := []) C hG (met_X3_puts l o (mB (mI S 0 0) 1 (mdR (fun i => gop 4 (mg S f i) (mg S g i)) (S.2.1 1) 24)) hM t ht hb (fun y hy => by rw [show (mB (mI S 0 0) 1 (mdR (fun i => gop 4 (mg S f i) (mg S g i)) (S.2.1 1) 24)).2.1 1 y = (mdR (fun i => gop 4 (mg S f i) (mg S g i)) (S.2.1 1) 24) y from rfl, mdR, if_pos hy]; exact gop_lt ((mg_ok hb hf).1 y) ((mg_ok hb hg).1 y))) hO.r (ci := 2) rfl (lw_V q1851 q1853 qs31 q60 q1854) ⟨rfl, hdX3_puts⟩ rfl hl.1 rfl (Nat.le_of_ble_eq_true rfl) ⟨(Nat.le_of_ble_eq_true rfl), (Nat.le_of_ble_eq_true rfl)⟩ dX3_combine_185) (by omega) (by omega) (fun z_ H_ hp_ => ?_)
      obtain ⟨hz_, hM, hF2⟩ := hp_
      have hF := hF.tr hF2
      exact pb_iret C dX3_combine_188 (⟨_, rfl, hz_, hM, hF⟩)
    · refine pb_aload_n C dX3_combine_102 rfl (lv_at hl 0 rfl) ?_
      refine pb_iload_n C dX3_combine_103 rfl (lv_at hl 1 rfl) ?_
      refine pb_iload C dX3_combine_104 (lv_at hl 5 rfl) ?_
      refine pb_go_x (bc' := 0) (bs' := 0) (pb_runV (rest := []) C hG (met_X3_row l o (mB (mI S 0 0) 1 (mdR (fun i => gop 4 (mg S f i) (mg S g i)) (S.2.1 1) k)) hM f (by omega) ((k : Nat) : Int) (by omega)) hO.r (ci := 2) rfl (lw_V q1807 q1809 qs28 q60 q1810) ⟨rfl, hdX3_row⟩ rfl hl.1 rfl (Nat.le_of_ble_eq_true rfl) ⟨(Nat.le_of_ble_eq_true rfl), (Nat.le_of_ble_eq_true rfl)⟩ dX3_combine_106) (by omega) (by omega) ?_
      refine pb_eq (g2 := F0 m_ 109 ls [.int (iZ ((((mg S f k) : Nat) : Int)))]) (congrArg (fun z9 => F0 m_ 109 ls [.int (iZ z9)]) (show (((gr (mg (mB (mI S 0 0) 1 (mdR (fun i => gop 4 (mg S f i) (mg S g i)) (S.2.1 1) k)) f) ((k : Nat) : Int)) : Nat) : Int) = (((mg S f k) : Nat) : Int) from congrArg (fun n : Nat => (n : Int)) (gr_nat (mg S f) k))) ?_
      refine pb_istore C dX3_combine_109 hl (by decide) rfl fun ls hl => ?_
      have hl : lv_has ls 9 [(7, .int (iZ ((((mg S f k) : Nat) : Int)))), (0, .ref (o)), (2, .int (iZ (((f : Nat) : Int)))), (3, .int (iZ (((g : Nat) : Int)))), (4, .int (iZ (((t : Nat) : Int)))), (5, .int (iZ (4))), (6, .int (iZ (((k : Nat) : Int))))] := hl
      refine pb_aload_n C dX3_combine_111 rfl (lv_at hl 1 rfl) ?_
      refine pb_iload_n C dX3_combine_112 rfl (lv_at hl 3 rfl) ?_
      refine pb_iload C dX3_combine_113 (lv_at hl 6 rfl) ?_
      refine pb_go_x (bc' := 0) (bs' := 0) (pb_runV (rest := []) C hG (met_X3_row l o (mB (mI S 0 0) 1 (mdR (fun i => gop 4 (mg S f i) (mg S g i)) (S.2.1 1) k)) hM g (by omega) ((k : Nat) : Int) (by omega)) hO.r (ci := 2) rfl (lw_V q1807 q1809 qs28 q60 q1810) ⟨rfl, hdX3_row⟩ rfl hl.1 rfl (Nat.le_of_ble_eq_true rfl) ⟨(Nat.le_of_ble_eq_true rfl), (Nat.le_of_ble_eq_true rfl)⟩ dX3_combine_115) (by omega) (by omega) ?_
      refine pb_eq (g2 := F0 m_ 118 ls [.int (iZ ((((mg S g k) : Nat) : Int)))]) (congrArg (fun z9 => F0 m_ 118 ls [.int (iZ z9)]) (show (((gr (mg (mB (mI S 0 0) 1 (mdR (fun i => gop 4 (mg S f i) (mg S g i)) (S.2.1 1) k)) g) ((k : Nat) : Int)) : Nat) : Int) = (((mg S g k) : Nat) : Int) from congrArg (fun n : Nat => (n : Int)) (gr_nat (mg S g) k))) ?_
      refine pb_istore C dX3_combine_118 hl (by decide) rfl fun ls hl => ?_
      have hl : lv_has ls 9 [(8, .int (iZ ((((mg S g k) : Nat) : Int)))), (7, .int (iZ ((((mg S f k) : Nat) : Int)))), (0, .ref (o)), (2, .int (iZ (((f : Nat) : Int)))), (3, .int (iZ (((g : Nat) : Int)))), (4, .int (iZ (((t : Nat) : Int)))), (5, .int (iZ (4))), (6, .int (iZ (((k : Nat) : Int))))] := hl
      refine pb_aload_n C dX3_combine_120 rfl (lv_at hl 2 rfl) ?_
      refine pb_get C in_X3 hO.r (ci := 2) rfl 3 (by decide) q1740 (fun _ h9 => h9) (v := .ref (o + 2)) rfl dX3_combine_121 ?_
      refine pb_iload C dX3_combine_124 (lv_at hl 7 rfl) ?_
      refine pb_iload C dX3_combine_126 (lv_at hl 6 rfl) ?_
      refine pb_ic C dX3_combine_128 ?_
      refine pb_icmp_ne C dX3_combine_129 (x := 4) (y := 1) (tgt := 140) (by decide) (by omega) (by omega) (fun c129_ => ?_) (fun c129_ => ?_)
      · refine pb_iload C dX3_combine_140 (lv_at hl 6 rfl) ?_
        refine pb_ic C dX3_combine_142 ?_
        refine pb_icmp_ne C dX3_combine_143 (x := 4) (y := 2) (tgt := 154) (by decide) (by omega) (by omega) (fun c143_ => ?_) (fun c143_ => ?_)
        · refine pb_iload C dX3_combine_154 (lv_at hl 6 rfl) ?_
          refine pb_ic C dX3_combine_156 ?_
          refine pb_icmp_ne C dX3_combine_157 (x := 4) (y := 3) (tgt := 170) (by decide) (by omega) (by omega) (fun c157_ => ?_) (fun c157_ => ?_)
          · refine pb_iload C dX3_combine_170 (lv_at hl 1 rfl) ?_
            refine pb_iload C dX3_combine_172 (lv_at hl 0 rfl) ?_
            refine pb_ixor C dX3_combine_174 (x := (mg S f k)) (y := (mg S g k)) ?_
            refine pb_iast C hA2 (i := ((k : Nat) : Int)) (by omega) (by omega) dX3_combine_175 fun H1_ hu_ hA2 => ?_
            rw [pb_upN, Int.toNat_natCast, mdR_step (fun i => gop 4 (mg S f i) (mg S g i)) _ k (v := ((mg S f k) ^^^ (mg S g k))) rfl] at hA2
            have hG := hG.kept (hu_.z (by omega))
            have hO := hO.kept (hu_.2 _ (by omega))
            have hA1 := hA1.kept (hu_.2 _ (by omega))
            have hA3 := hA3.kept (hu_.2 _ (by omega))
            have hA4 := hA4.kept (hu_.2 _ (by omega))
            have hA5 := hA5.kept (hu_.2 _ (by omega))
            have hA6 := hA6.kept (hu_.2 _ (by omega))
            have hA7 := hA7.kept (hu_.2 _ (by omega))
            have hA8 := hA8.kept (hu_.2 _ (by omega))
            have hA9 := hA9.kept (hu_.2 _ (by omega))
            have hA10 := hA10.kept (hu_.2 _ (by omega))
            have hA11 := hA11.kept (hu_.2 _ (by omega))
            have hA12 := hA12.kept (hu_.2 _ (by omega))
            have hF := hF.up hu_ (by omega)
            refine pb_iinc C dX3_combine_176 hl (j := 7) (x := (((k : Nat) : Int))) rfl (by decide) rfl fun ls hl => ?_
            have hl : lv_has ls 9 [(6, .int (iZ ((((k + 1) : Nat) : Int)))), (8, .int (iZ ((((mg S g k) : Nat) : Int)))), (7, .int (iZ ((((mg S f k) : Nat) : Int)))), (0, .ref (o)), (2, .int (iZ (((f : Nat) : Int)))), (3, .int (iZ (((g : Nat) : Int)))), (4, .int (iZ (((t : Nat) : Int)))), (5, .int (iZ (4)))] := hl
            refine pb_goto C dX3_combine_179 (tgt := 95) (by decide) ?_
            exact pb_V.mono (by omega) (by omega) (ih95 _ (by omega) (k + 1) H1_ rfl hG (by omega) ⟨hz, hO, hA1, hA2, hA3, hA4, hA5, hA6, hA7, hA8, hA9, hA10, hA11, hA12⟩ hF ls (lv_sub hl [3, 4, 5, 6, 7, 0] rfl))
          · exact absurd c157_ (by decide)
        · exact absurd c143_ (by decide)
      · exact absurd c129_ (by decide)
  refine pb_iload_n C dX3_combine_0 rfl (lv_at hl 1 rfl) ?_
  refine pb_bip C dX3_combine_1 (by decide) ?_
  refine pb_icmp_ne C dX3_combine_3 (x := 120) (y := 117) (tgt := 10) (by decide) (by omega) (by omega) (fun c3_ => ?_) (fun c3_ => ?_)
  · refine pb_iload_n C dX3_combine_10 rfl (lv_at hl 1 rfl) ?_
    refine pb_bip C dX3_combine_11 (by decide) ?_
    refine pb_icmp_ne C dX3_combine_13 (x := 120) (y := 105) (tgt := 20) (by decide) (by omega) (by omega) (fun c13_ => ?_) (fun c13_ => ?_)
    · refine pb_iload_n C dX3_combine_20 rfl (lv_at hl 1 rfl) ?_
      refine pb_bip C dX3_combine_21 (by decide) ?_
      refine pb_icmp_ne C dX3_combine_23 (x := 120) (y := 100) (tgt := 30) (by decide) (by omega) (by omega) (fun c23_ => ?_) (fun c23_ => ?_)
      · refine pb_iload_n C dX3_combine_30 rfl (lv_at hl 1 rfl) ?_
        refine pb_bip C dX3_combine_31 (by decide) ?_
        refine pb_icmp_ne C dX3_combine_33 (x := 120) (y := 120) (tgt := 40) (by decide) (by omega) (by omega) (fun c33_ => ?_) (fun c33_ => ?_)
        · exact absurd c33_ (by decide)
        · refine pb_ic C dX3_combine_36 ?_
          refine pb_goto C dX3_combine_37 (tgt := 41) (by decide) ?_
          refine pb_istore C dX3_combine_41 hl (by decide) rfl fun ls hl => ?_
          have hl : lv_has ls 9 [(5, .int (iZ (4))), (0, .ref (o)), (1, .int (iZ (120))), (2, .int (iZ (((f : Nat) : Int)))), (3, .int (iZ (((g : Nat) : Int)))), (4, .int (iZ (((t : Nat) : Int))))] := hl
          refine pb_aload_n C dX3_combine_43 rfl (lv_at hl 1 rfl) ?_
          refine pb_iload_n C dX3_combine_44 rfl (lv_at hl 3 rfl) ?_
          refine pb_go_x (bc' := 0) (bs' := 0) (pb_runS (rest := [.ref (o)]) C hG (met_X3_isSheet l (((f : Nat) : Int)) (by omega)) (lw_S q1794 q1795 q60 q1796) hdX3_isSheet rfl hl.1 rfl (Nat.le_of_ble_eq_true rfl) ⟨(Nat.le_of_ble_eq_true rfl), (Nat.le_of_ble_eq_true rfl)⟩ dX3_combine_45) (by omega) (by omega) ?_
          refine pb_ifB_eq C dX3_combine_48 (tgt := 66) (by decide) (fun c48_ => ?_) (fun c48_ => ?_)
          · have c48_ := of_decide_eq_false c48_
            omega
          · have c48_ := of_decide_eq_true c48_
            refine pb_iload_n C dX3_combine_51 rfl (lv_at hl 4 rfl) ?_
            refine pb_go_x (bc' := 0) (bs' := 0) (pb_runS (rest := [.ref (o)]) C hG (met_X3_isSheet l (((g : Nat) : Int)) (by omega)) (lw_S q1794 q1795 q60 q1796) hdX3_isSheet rfl hl.1 rfl (Nat.le_of_ble_eq_true rfl) ⟨(Nat.le_of_ble_eq_true rfl), (Nat.le_of_ble_eq_true rfl)⟩ dX3_combine_52) (by omega) (by omega) ?_
            refine pb_ifB_eq C dX3_combine_55 (tgt := 66) (by decide) (fun c55_ => ?_) (fun c55_ => ?_)
            · have c55_ := of_decide_eq_false c55_
              omega
            · have c55_ := of_decide_eq_true c55_
              refine pb_iload C dX3_combine_58 (lv_at hl 5 rfl) ?_
              refine pb_go_x (bc' := 0) (bs' := 0) (pb_runS (rest := [.ref (o)]) C hG (met_X3_isSheet l (((t : Nat) : Int)) (by omega)) (lw_S q1794 q1795 q60 q1796) hdX3_isSheet rfl hl.1 rfl (Nat.le_of_ble_eq_true rfl) ⟨(Nat.le_of_ble_eq_true rfl), (Nat.le_of_ble_eq_true rfl)⟩ dX3_combine_60) (by omega) (by omega) ?_
              refine pb_ifB_ne C dX3_combine_63 (tgt := 70) (by decide) (fun c63_ => ?_) (fun c63_ => ?_)
              · have c63_ := of_decide_eq_true c63_
                refine pb_iload C dX3_combine_70 (lv_at hl 0 rfl) ?_
                refine pb_if_ne C dX3_combine_72 (x := 4) (tgt := 79) (by decide) (by omega) (fun c72_ => ?_) (fun c72_ => ?_)
                · refine pb_ic C dX3_combine_79 ?_
                  refine pb_put C in_X3 tyX3 tyX3_ok nmX3 hO (ci := 2) rfl 0 (by decide) q1737 (fun _ h9 => h9) rfl (v := .int (iZ (0))) rfl rfl (Nat.le_of_ble_eq_true rfl) (by omega) dX3_combine_80 fun H2_ hu_ hO => ?_
                  have hO : pb_O w H2_ (o) 2 [.int (iZ (0)), .int (iZ ((S.1 1))), .ref (o + 1), .ref (o + 2), .ref (o + 3), .ref (o + 4), .ref (o + 5), .ref (o + 6), .ref (o + 7), .ref (o + 8), .ref (o + 9), .ref (o + 10), .ref (o + 11), .ref (o + 12), .int (iZ ((S.1 2))), .int (iZ ((S.1 3)))] := hO
                  have hG := hG.kept (hu_.z (by omega))
                  have hA1 := hA1.kept (hu_.2 _ (by omega))
                  have hA2 := hA2.kept (hu_.2 _ (by omega))
                  have hA3 := hA3.kept (hu_.2 _ (by omega))
                  have hA4 := hA4.kept (hu_.2 _ (by omega))
                  have hA5 := hA5.kept (hu_.2 _ (by omega))
                  have hA6 := hA6.kept (hu_.2 _ (by omega))
                  have hA7 := hA7.kept (hu_.2 _ (by omega))
                  have hA8 := hA8.kept (hu_.2 _ (by omega))
                  have hA9 := hA9.kept (hu_.2 _ (by omega))
                  have hA10 := hA10.kept (hu_.2 _ (by omega))
                  have hA11 := hA11.kept (hu_.2 _ (by omega))
                  have hA12 := hA12.kept (hu_.2 _ (by omega))
                  have hF := hF.up hu_ (by omega)
                  refine pb_aload_n C dX3_combine_83 rfl (lv_at hl 1 rfl) ?_
                  refine pb_get C in_X3 hO.r (ci := 2) rfl 0 (by decide) q1737 (fun _ h9 => h9) (v := .int (iZ (0))) rfl dX3_combine_84 ?_
                  refine pb_if_eq C dX3_combine_87 (x := 0) (tgt := 92) (by decide) (by omega) (fun c87_ => ?_) (fun c87_ => ?_)
                  · refine pb_ic C dX3_combine_92 ?_
                    refine pb_istore C dX3_combine_93 hl (by decide) rfl fun ls hl => ?_
                    have hl : lv_has ls 9 [(6, .int (iZ (0))), (5, .int (iZ (4))), (0, .ref (o)), (1, .int (iZ (120))), (2, .int (iZ (((f : Nat) : Int)))), (3, .int (iZ (((g : Nat) : Int)))), (4, .int (iZ (((t : Nat) : Int))))] := hl
                    exact pb_V.mono (by omega) (by omega) (L95 _ 0 H2_ rfl hG (by omega) (by rw [mdR_0]; exact ⟨hz, hO, hA1, hA2, hA3, hA4, hA5, hA6, hA7, hA8, hA9, hA10, hA11, hA12⟩) hF ls (lv_sub hl [2, 4, 5, 6, 1, 0] rfl))
                  · exact absurd c87_ (by decide)
                · exact absurd c72_ (by decide)
              · have c63_ := of_decide_eq_false c63_
                omega
      · exact absurd c23_ (by decide)
    · exact absurd c13_ (by decide)
  · exact absurd c3_ (by decide)

set_option maxHeartbeats 1000000 in
theorem met_X3_combine_1 {w : pb_W} (l : Launch) {H0 : Heap} (o : Nat) (S : mS) (hM : MW w H0 o S) (c f g t : Int) (hc : 0 ≤ c ∧ c ≤ 65535) (hfr : -2147483648 ≤ f ∧ f ≤ 2147483647) (hgr : -2147483648 ≤ g ∧ g ≤ 2147483647) (htr : -2147483648 ≤ t ∧ t ≤ 2147483647) (hn : ¬ ((0 ≤ f ∧ f ≤ 7) ∧ (0 ≤ g ∧ g ≤ 7) ∧ (0 ≤ t ∧ t ≤ 7))) : pb_M w l yX3_combine cX3_combine 9 (some .int) 6 (0) (0) [.ref (o), .int (iZ (c)), .int (iZ (f)), .int (iZ (g)), .int (iZ (t))] H0 (pb_qi (fun z H1 => z = 0 ∧ MW w H1 o (mI S 0 1) ∧ mF o H0 H1)) := by
  refine pb_of (by decide +kernel) (Nat.le_of_ble_eq_true rfl) ?_
  intro p_ e_ s_ m_ ar_ bl_ me_ co_ ls C hh hG hl
  have hl : lv_has ls 9 [(0, .ref (o)), (1, .int (iZ (c))), (2, .int (iZ (f))), (3, .int (iZ (g))), (4, .int (iZ (t)))] := hl
  have hM0 := hM; obtain ⟨hz, hO, hA1, hA2, hA3, hA4, hA5, hA6, hA7, hA8, hA9, hA10, hA11, hA12⟩ := hM0
  have hF : mF o H0 H0 := mF.rf
  refine pb_iload_n C dX3_combine_0 rfl (lv_at hl 1 rfl) ?_
  refine pb_bip C dX3_combine_1 (by decide) ?_
  refine pb_icmp_ne C dX3_combine_3 (x := c) (y := 117) (tgt := 10) (by decide) (by omega) (by omega) (fun c3_ => ?_) (fun c3_ => ?_)
  · refine pb_iload_n C dX3_combine_10 rfl (lv_at hl 1 rfl) ?_
    refine pb_bip C dX3_combine_11 (by decide) ?_
    refine pb_icmp_ne C dX3_combine_13 (x := c) (y := 105) (tgt := 20) (by decide) (by omega) (by omega) (fun c13_ => ?_) (fun c13_ => ?_)
    · refine pb_iload_n C dX3_combine_20 rfl (lv_at hl 1 rfl) ?_
      refine pb_bip C dX3_combine_21 (by decide) ?_
      refine pb_icmp_ne C dX3_combine_23 (x := c) (y := 100) (tgt := 30) (by decide) (by omega) (by omega) (fun c23_ => ?_) (fun c23_ => ?_)
      · refine pb_iload_n C dX3_combine_30 rfl (lv_at hl 1 rfl) ?_
        refine pb_bip C dX3_combine_31 (by decide) ?_
        refine pb_icmp_ne C dX3_combine_33 (x := c) (y := 120) (tgt := 40) (by decide) (by omega) (by omega) (fun c33_ => ?_) (fun c33_ => ?_)
        · refine pb_ic C dX3_combine_40 ?_
          refine pb_istore C dX3_combine_41 hl (by decide) rfl fun ls hl => ?_
          have hl : lv_has ls 9 [(5, .int (iZ (0))), (0, .ref (o)), (1, .int (iZ (c))), (2, .int (iZ (f))), (3, .int (iZ (g))), (4, .int (iZ (t)))] := hl
          refine pb_aload_n C dX3_combine_43 rfl (lv_at hl 1 rfl) ?_
          refine pb_iload_n C dX3_combine_44 rfl (lv_at hl 3 rfl) ?_
          refine pb_go_x (bc' := 0) (bs' := 0) (pb_runS (rest := [.ref (o)]) C hG (met_X3_isSheet l f (by omega)) (lw_S q1794 q1795 q60 q1796) hdX3_isSheet rfl hl.1 rfl (Nat.le_of_ble_eq_true rfl) ⟨(Nat.le_of_ble_eq_true rfl), (Nat.le_of_ble_eq_true rfl)⟩ dX3_combine_45) (by omega) (by omega) ?_
          refine pb_ifB_eq C dX3_combine_48 (tgt := 66) (by decide) (fun c48_ => ?_) (fun c48_ => ?_)
          · have c48_ := of_decide_eq_false c48_
            refine pb_ic C dX3_combine_66 ?_
            refine pb_goto C dX3_combine_67 (tgt := 80) (by decide) ?_
            refine pb_put C in_X3 tyX3 tyX3_ok nmX3 hO (ci := 2) rfl 0 (by decide) q1737 (fun _ h9 => h9) rfl (v := .int (iZ (1))) rfl rfl (Nat.le_of_ble_eq_true rfl) (by omega) dX3_combine_80 fun H1_ hu_ hO => ?_
            have hO : pb_O w H1_ (o) 2 [.int (iZ (1)), .int (iZ ((S.1 1))), .ref (o + 1), .ref (o + 2), .ref (o + 3), .ref (o + 4), .ref (o + 5), .ref (o + 6), .ref (o + 7), .ref (o + 8), .ref (o + 9), .ref (o + 10), .ref (o + 11), .ref (o + 12), .int (iZ ((S.1 2))), .int (iZ ((S.1 3)))] := hO
            have hG := hG.kept (hu_.z (by omega))
            have hA1 := hA1.kept (hu_.2 _ (by omega))
            have hA2 := hA2.kept (hu_.2 _ (by omega))
            have hA3 := hA3.kept (hu_.2 _ (by omega))
            have hA4 := hA4.kept (hu_.2 _ (by omega))
            have hA5 := hA5.kept (hu_.2 _ (by omega))
            have hA6 := hA6.kept (hu_.2 _ (by omega))
            have hA7 := hA7.kept (hu_.2 _ (by omega))
            have hA8 := hA8.kept (hu_.2 _ (by omega))
            have hA9 := hA9.kept (hu_.2 _ (by omega))
            have hA10 := hA10.kept (hu_.2 _ (by omega))
            have hA11 := hA11.kept (hu_.2 _ (by omega))
            have hA12 := hA12.kept (hu_.2 _ (by omega))
            have hF := hF.up hu_ (by omega)
            refine pb_aload_n C dX3_combine_83 rfl (lv_at hl 1 rfl) ?_
            refine pb_get C in_X3 hO.r (ci := 2) rfl 0 (by decide) q1737 (fun _ h9 => h9) (v := .int (iZ (1))) rfl dX3_combine_84 ?_
            refine pb_if_eq C dX3_combine_87 (x := 1) (tgt := 92) (by decide) (by omega) (fun c87_ => ?_) (fun c87_ => ?_)
            · exact absurd c87_ (by decide)
            · refine pb_ic C dX3_combine_90 ?_
              exact pb_iret C dX3_combine_91 (⟨_, rfl, rfl, ⟨hz, hO, hA1, hA2, hA3, hA4, hA5, hA6, hA7, hA8, hA9, hA10, hA11, hA12⟩, hF⟩)
          · have c48_ := of_decide_eq_true c48_
            refine pb_iload_n C dX3_combine_51 rfl (lv_at hl 4 rfl) ?_
            refine pb_go_x (bc' := 0) (bs' := 0) (pb_runS (rest := [.ref (o)]) C hG (met_X3_isSheet l g (by omega)) (lw_S q1794 q1795 q60 q1796) hdX3_isSheet rfl hl.1 rfl (Nat.le_of_ble_eq_true rfl) ⟨(Nat.le_of_ble_eq_true rfl), (Nat.le_of_ble_eq_true rfl)⟩ dX3_combine_52) (by omega) (by omega) ?_
            refine pb_ifB_eq C dX3_combine_55 (tgt := 66) (by decide) (fun c55_ => ?_) (fun c55_ => ?_)
            · have c55_ := of_decide_eq_false c55_
              refine pb_ic C dX3_combine_66 ?_
              refine pb_goto C dX3_combine_67 (tgt := 80) (by decide) ?_
              refine pb_put C in_X3 tyX3 tyX3_ok nmX3 hO (ci := 2) rfl 0 (by decide) q1737 (fun _ h9 => h9) rfl (v := .int (iZ (1))) rfl rfl (Nat.le_of_ble_eq_true rfl) (by omega) dX3_combine_80 fun H2_ hu_ hO => ?_
              have hO : pb_O w H2_ (o) 2 [.int (iZ (1)), .int (iZ ((S.1 1))), .ref (o + 1), .ref (o + 2), .ref (o + 3), .ref (o + 4), .ref (o + 5), .ref (o + 6), .ref (o + 7), .ref (o + 8), .ref (o + 9), .ref (o + 10), .ref (o + 11), .ref (o + 12), .int (iZ ((S.1 2))), .int (iZ ((S.1 3)))] := hO
              have hG := hG.kept (hu_.z (by omega))
              have hA1 := hA1.kept (hu_.2 _ (by omega))
              have hA2 := hA2.kept (hu_.2 _ (by omega))
              have hA3 := hA3.kept (hu_.2 _ (by omega))
              have hA4 := hA4.kept (hu_.2 _ (by omega))
              have hA5 := hA5.kept (hu_.2 _ (by omega))
              have hA6 := hA6.kept (hu_.2 _ (by omega))
              have hA7 := hA7.kept (hu_.2 _ (by omega))
              have hA8 := hA8.kept (hu_.2 _ (by omega))
              have hA9 := hA9.kept (hu_.2 _ (by omega))
              have hA10 := hA10.kept (hu_.2 _ (by omega))
              have hA11 := hA11.kept (hu_.2 _ (by omega))
              have hA12 := hA12.kept (hu_.2 _ (by omega))
              have hF := hF.up hu_ (by omega)
              refine pb_aload_n C dX3_combine_83 rfl (lv_at hl 1 rfl) ?_
              refine pb_get C in_X3 hO.r (ci := 2) rfl 0 (by decide) q1737 (fun _ h9 => h9) (v := .int (iZ (1))) rfl dX3_combine_84 ?_
              refine pb_if_eq C dX3_combine_87 (x := 1) (tgt := 92) (by decide) (by omega) (fun c87_ => ?_) (fun c87_ => ?_)
              · exact absurd c87_ (by decide)
              · refine pb_ic C dX3_combine_90 ?_
                exact pb_iret C dX3_combine_91 (⟨_, rfl, rfl, ⟨hz, hO, hA1, hA2, hA3, hA4, hA5, hA6, hA7, hA8, hA9, hA10, hA11, hA12⟩, hF⟩)
            · have c55_ := of_decide_eq_true c55_
              refine pb_iload C dX3_combine_58 (lv_at hl 5 rfl) ?_
              refine pb_go_x (bc' := 0) (bs' := 0) (pb_runS (rest := [.ref (o)]) C hG (met_X3_isSheet l t (by omega)) (lw_S q1794 q1795 q60 q1796) hdX3_isSheet rfl hl.1 rfl (Nat.le_of_ble_eq_true rfl) ⟨(Nat.le_of_ble_eq_true rfl), (Nat.le_of_ble_eq_true rfl)⟩ dX3_combine_60) (by omega) (by omega) ?_
              refine pb_ifB_ne C dX3_combine_63 (tgt := 70) (by decide) (fun c63_ => ?_) (fun c63_ => ?_)
              · have c63_ := of_decide_eq_true c63_
                omega
              · have c63_ := of_decide_eq_false c63_
                refine pb_ic C dX3_combine_66 ?_
                refine pb_goto C dX3_combine_67 (tgt := 80) (by decide) ?_
                refine pb_put C in_X3 tyX3 tyX3_ok nmX3 hO (ci := 2) rfl 0 (by decide) q1737 (fun _ h9 => h9) rfl (v := .int (iZ (1))) rfl rfl (Nat.le_of_ble_eq_true rfl) (by omega) dX3_combine_80 fun H3_ hu_ hO => ?_
                have hO : pb_O w H3_ (o) 2 [.int (iZ (1)), .int (iZ ((S.1 1))), .ref (o + 1), .ref (o + 2), .ref (o + 3), .ref (o + 4), .ref (o + 5), .ref (o + 6), .ref (o + 7), .ref (o + 8), .ref (o + 9), .ref (o + 10), .ref (o + 11), .ref (o + 12), .int (iZ ((S.1 2))), .int (iZ ((S.1 3)))] := hO
                have hG := hG.kept (hu_.z (by omega))
                have hA1 := hA1.kept (hu_.2 _ (by omega))
                have hA2 := hA2.kept (hu_.2 _ (by omega))
                have hA3 := hA3.kept (hu_.2 _ (by omega))
                have hA4 := hA4.kept (hu_.2 _ (by omega))
                have hA5 := hA5.kept (hu_.2 _ (by omega))
                have hA6 := hA6.kept (hu_.2 _ (by omega))
                have hA7 := hA7.kept (hu_.2 _ (by omega))
                have hA8 := hA8.kept (hu_.2 _ (by omega))
                have hA9 := hA9.kept (hu_.2 _ (by omega))
                have hA10 := hA10.kept (hu_.2 _ (by omega))
                have hA11 := hA11.kept (hu_.2 _ (by omega))
                have hA12 := hA12.kept (hu_.2 _ (by omega))
                have hF := hF.up hu_ (by omega)
                refine pb_aload_n C dX3_combine_83 rfl (lv_at hl 1 rfl) ?_
                refine pb_get C in_X3 hO.r (ci := 2) rfl 0 (by decide) q1737 (fun _ h9 => h9) (v := .int (iZ (1))) rfl dX3_combine_84 ?_
                refine pb_if_eq C dX3_combine_87 (x := 1) (tgt := 92) (by decide) (by omega) (fun c87_ => ?_) (fun c87_ => ?_)
                · exact absurd c87_ (by decide)
                · refine pb_ic C dX3_combine_90 ?_
                  exact pb_iret C dX3_combine_91 (⟨_, rfl, rfl, ⟨hz, hO, hA1, hA2, hA3, hA4, hA5, hA6, hA7, hA8, hA9, hA10, hA11, hA12⟩, hF⟩)
        · refine pb_ic C dX3_combine_36 ?_
          refine pb_goto C dX3_combine_37 (tgt := 41) (by decide) ?_
          refine pb_istore C dX3_combine_41 hl (by decide) rfl fun ls hl => ?_
          have hl : lv_has ls 9 [(5, .int (iZ (4))), (0, .ref (o)), (1, .int (iZ (c))), (2, .int (iZ (f))), (3, .int (iZ (g))), (4, .int (iZ (t)))] := hl
          refine pb_aload_n C dX3_combine_43 rfl (lv_at hl 1 rfl) ?_
          refine pb_iload_n C dX3_combine_44 rfl (lv_at hl 3 rfl) ?_
          refine pb_go_x (bc' := 0) (bs' := 0) (pb_runS (rest := [.ref (o)]) C hG (met_X3_isSheet l f (by omega)) (lw_S q1794 q1795 q60 q1796) hdX3_isSheet rfl hl.1 rfl (Nat.le_of_ble_eq_true rfl) ⟨(Nat.le_of_ble_eq_true rfl), (Nat.le_of_ble_eq_true rfl)⟩ dX3_combine_45) (by omega) (by omega) ?_
          refine pb_ifB_eq C dX3_combine_48 (tgt := 66) (by decide) (fun c48_ => ?_) (fun c48_ => ?_)
          · have c48_ := of_decide_eq_false c48_
            refine pb_ic C dX3_combine_66 ?_
            refine pb_goto C dX3_combine_67 (tgt := 80) (by decide) ?_
            refine pb_put C in_X3 tyX3 tyX3_ok nmX3 hO (ci := 2) rfl 0 (by decide) q1737 (fun _ h9 => h9) rfl (v := .int (iZ (1))) rfl rfl (Nat.le_of_ble_eq_true rfl) (by omega) dX3_combine_80 fun H4_ hu_ hO => ?_
            have hO : pb_O w H4_ (o) 2 [.int (iZ (1)), .int (iZ ((S.1 1))), .ref (o + 1), .ref (o + 2), .ref (o + 3), .ref (o + 4), .ref (o + 5), .ref (o + 6), .ref (o + 7), .ref (o + 8), .ref (o + 9), .ref (o + 10), .ref (o + 11), .ref (o + 12), .int (iZ ((S.1 2))), .int (iZ ((S.1 3)))] := hO
            have hG := hG.kept (hu_.z (by omega))
            have hA1 := hA1.kept (hu_.2 _ (by omega))
            have hA2 := hA2.kept (hu_.2 _ (by omega))
            have hA3 := hA3.kept (hu_.2 _ (by omega))
            have hA4 := hA4.kept (hu_.2 _ (by omega))
            have hA5 := hA5.kept (hu_.2 _ (by omega))
            have hA6 := hA6.kept (hu_.2 _ (by omega))
            have hA7 := hA7.kept (hu_.2 _ (by omega))
            have hA8 := hA8.kept (hu_.2 _ (by omega))
            have hA9 := hA9.kept (hu_.2 _ (by omega))
            have hA10 := hA10.kept (hu_.2 _ (by omega))
            have hA11 := hA11.kept (hu_.2 _ (by omega))
            have hA12 := hA12.kept (hu_.2 _ (by omega))
            have hF := hF.up hu_ (by omega)
            refine pb_aload_n C dX3_combine_83 rfl (lv_at hl 1 rfl) ?_
            refine pb_get C in_X3 hO.r (ci := 2) rfl 0 (by decide) q1737 (fun _ h9 => h9) (v := .int (iZ (1))) rfl dX3_combine_84 ?_
            refine pb_if_eq C dX3_combine_87 (x := 1) (tgt := 92) (by decide) (by omega) (fun c87_ => ?_) (fun c87_ => ?_)
            · exact absurd c87_ (by decide)
            · refine pb_ic C dX3_combine_90 ?_
              exact pb_iret C dX3_combine_91 (⟨_, rfl, rfl, ⟨hz, hO, hA1, hA2, hA3, hA4, hA5, hA6, hA7, hA8, hA9, hA10, hA11, hA12⟩, hF⟩)
          · have c48_ := of_decide_eq_true c48_
            refine pb_iload_n C dX3_combine_51 rfl (lv_at hl 4 rfl) ?_
            refine pb_go_x (bc' := 0) (bs' := 0) (pb_runS (rest := [.ref (o)]) C hG (met_X3_isSheet l g (by omega)) (lw_S q1794 q1795 q60 q1796) hdX3_isSheet rfl hl.1 rfl (Nat.le_of_ble_eq_true rfl) ⟨(Nat.le_of_ble_eq_true rfl), (Nat.le_of_ble_eq_true rfl)⟩ dX3_combine_52) (by omega) (by omega) ?_
            refine pb_ifB_eq C dX3_combine_55 (tgt := 66) (by decide) (fun c55_ => ?_) (fun c55_ => ?_)
            · have c55_ := of_decide_eq_false c55_
              refine pb_ic C dX3_combine_66 ?_
              refine pb_goto C dX3_combine_67 (tgt := 80) (by decide) ?_
              refine pb_put C in_X3 tyX3 tyX3_ok nmX3 hO (ci := 2) rfl 0 (by decide) q1737 (fun _ h9 => h9) rfl (v := .int (iZ (1))) rfl rfl (Nat.le_of_ble_eq_true rfl) (by omega) dX3_combine_80 fun H5_ hu_ hO => ?_
              have hO : pb_O w H5_ (o) 2 [.int (iZ (1)), .int (iZ ((S.1 1))), .ref (o + 1), .ref (o + 2), .ref (o + 3), .ref (o + 4), .ref (o + 5), .ref (o + 6), .ref (o + 7), .ref (o + 8), .ref (o + 9), .ref (o + 10), .ref (o + 11), .ref (o + 12), .int (iZ ((S.1 2))), .int (iZ ((S.1 3)))] := hO
              have hG := hG.kept (hu_.z (by omega))
              have hA1 := hA1.kept (hu_.2 _ (by omega))
              have hA2 := hA2.kept (hu_.2 _ (by omega))
              have hA3 := hA3.kept (hu_.2 _ (by omega))
              have hA4 := hA4.kept (hu_.2 _ (by omega))
              have hA5 := hA5.kept (hu_.2 _ (by omega))
              have hA6 := hA6.kept (hu_.2 _ (by omega))
              have hA7 := hA7.kept (hu_.2 _ (by omega))
              have hA8 := hA8.kept (hu_.2 _ (by omega))
              have hA9 := hA9.kept (hu_.2 _ (by omega))
              have hA10 := hA10.kept (hu_.2 _ (by omega))
              have hA11 := hA11.kept (hu_.2 _ (by omega))
              have hA12 := hA12.kept (hu_.2 _ (by omega))
              have hF := hF.up hu_ (by omega)
              refine pb_aload_n C dX3_combine_83 rfl (lv_at hl 1 rfl) ?_
              refine pb_get C in_X3 hO.r (ci := 2) rfl 0 (by decide) q1737 (fun _ h9 => h9) (v := .int (iZ (1))) rfl dX3_combine_84 ?_
              refine pb_if_eq C dX3_combine_87 (x := 1) (tgt := 92) (by decide) (by omega) (fun c87_ => ?_) (fun c87_ => ?_)
              · exact absurd c87_ (by decide)
              · refine pb_ic C dX3_combine_90 ?_
                exact pb_iret C dX3_combine_91 (⟨_, rfl, rfl, ⟨hz, hO, hA1, hA2, hA3, hA4, hA5, hA6, hA7, hA8, hA9, hA10, hA11, hA12⟩, hF⟩)
            · have c55_ := of_decide_eq_true c55_
              refine pb_iload C dX3_combine_58 (lv_at hl 5 rfl) ?_
              refine pb_go_x (bc' := 0) (bs' := 0) (pb_runS (rest := [.ref (o)]) C hG (met_X3_isSheet l t (by omega)) (lw_S q1794 q1795 q60 q1796) hdX3_isSheet rfl hl.1 rfl (Nat.le_of_ble_eq_true rfl) ⟨(Nat.le_of_ble_eq_true rfl), (Nat.le_of_ble_eq_true rfl)⟩ dX3_combine_60) (by omega) (by omega) ?_
              refine pb_ifB_ne C dX3_combine_63 (tgt := 70) (by decide) (fun c63_ => ?_) (fun c63_ => ?_)
              · have c63_ := of_decide_eq_true c63_
                omega
              · have c63_ := of_decide_eq_false c63_
                refine pb_ic C dX3_combine_66 ?_
                refine pb_goto C dX3_combine_67 (tgt := 80) (by decide) ?_
                refine pb_put C in_X3 tyX3 tyX3_ok nmX3 hO (ci := 2) rfl 0 (by decide) q1737 (fun _ h9 => h9) rfl (v := .int (iZ (1))) rfl rfl (Nat.le_of_ble_eq_true rfl) (by omega) dX3_combine_80 fun H6_ hu_ hO => ?_
                have hO : pb_O w H6_ (o) 2 [.int (iZ (1)), .int (iZ ((S.1 1))), .ref (o + 1), .ref (o + 2), .ref (o + 3), .ref (o + 4), .ref (o + 5), .ref (o + 6), .ref (o + 7), .ref (o + 8), .ref (o + 9), .ref (o + 10), .ref (o + 11), .ref (o + 12), .int (iZ ((S.1 2))), .int (iZ ((S.1 3)))] := hO
                have hG := hG.kept (hu_.z (by omega))
                have hA1 := hA1.kept (hu_.2 _ (by omega))
                have hA2 := hA2.kept (hu_.2 _ (by omega))
                have hA3 := hA3.kept (hu_.2 _ (by omega))
                have hA4 := hA4.kept (hu_.2 _ (by omega))
                have hA5 := hA5.kept (hu_.2 _ (by omega))
                have hA6 := hA6.kept (hu_.2 _ (by omega))
                have hA7 := hA7.kept (hu_.2 _ (by omega))
                have hA8 := hA8.kept (hu_.2 _ (by omega))
                have hA9 := hA9.kept (hu_.2 _ (by omega))
                have hA10 := hA10.kept (hu_.2 _ (by omega))
                have hA11 := hA11.kept (hu_.2 _ (by omega))
                have hA12 := hA12.kept (hu_.2 _ (by omega))
                have hF := hF.up hu_ (by omega)
                refine pb_aload_n C dX3_combine_83 rfl (lv_at hl 1 rfl) ?_
                refine pb_get C in_X3 hO.r (ci := 2) rfl 0 (by decide) q1737 (fun _ h9 => h9) (v := .int (iZ (1))) rfl dX3_combine_84 ?_
                refine pb_if_eq C dX3_combine_87 (x := 1) (tgt := 92) (by decide) (by omega) (fun c87_ => ?_) (fun c87_ => ?_)
                · exact absurd c87_ (by decide)
                · refine pb_ic C dX3_combine_90 ?_
                  exact pb_iret C dX3_combine_91 (⟨_, rfl, rfl, ⟨hz, hO, hA1, hA2, hA3, hA4, hA5, hA6, hA7, hA8, hA9, hA10, hA11, hA12⟩, hF⟩)
      · refine pb_ic C dX3_combine_26 ?_
        refine pb_goto C dX3_combine_27 (tgt := 41) (by decide) ?_
        refine pb_istore C dX3_combine_41 hl (by decide) rfl fun ls hl => ?_
        have hl : lv_has ls 9 [(5, .int (iZ (3))), (0, .ref (o)), (1, .int (iZ (c))), (2, .int (iZ (f))), (3, .int (iZ (g))), (4, .int (iZ (t)))] := hl
        refine pb_aload_n C dX3_combine_43 rfl (lv_at hl 1 rfl) ?_
        refine pb_iload_n C dX3_combine_44 rfl (lv_at hl 3 rfl) ?_
        refine pb_go_x (bc' := 0) (bs' := 0) (pb_runS (rest := [.ref (o)]) C hG (met_X3_isSheet l f (by omega)) (lw_S q1794 q1795 q60 q1796) hdX3_isSheet rfl hl.1 rfl (Nat.le_of_ble_eq_true rfl) ⟨(Nat.le_of_ble_eq_true rfl), (Nat.le_of_ble_eq_true rfl)⟩ dX3_combine_45) (by omega) (by omega) ?_
        refine pb_ifB_eq C dX3_combine_48 (tgt := 66) (by decide) (fun c48_ => ?_) (fun c48_ => ?_)
        · have c48_ := of_decide_eq_false c48_
          refine pb_ic C dX3_combine_66 ?_
          refine pb_goto C dX3_combine_67 (tgt := 80) (by decide) ?_
          refine pb_put C in_X3 tyX3 tyX3_ok nmX3 hO (ci := 2) rfl 0 (by decide) q1737 (fun _ h9 => h9) rfl (v := .int (iZ (1))) rfl rfl (Nat.le_of_ble_eq_true rfl) (by omega) dX3_combine_80 fun H7_ hu_ hO => ?_
          have hO : pb_O w H7_ (o) 2 [.int (iZ (1)), .int (iZ ((S.1 1))), .ref (o + 1), .ref (o + 2), .ref (o + 3), .ref (o + 4), .ref (o + 5), .ref (o + 6), .ref (o + 7), .ref (o + 8), .ref (o + 9), .ref (o + 10), .ref (o + 11), .ref (o + 12), .int (iZ ((S.1 2))), .int (iZ ((S.1 3)))] := hO
          have hG := hG.kept (hu_.z (by omega))
          have hA1 := hA1.kept (hu_.2 _ (by omega))
          have hA2 := hA2.kept (hu_.2 _ (by omega))
          have hA3 := hA3.kept (hu_.2 _ (by omega))
          have hA4 := hA4.kept (hu_.2 _ (by omega))
          have hA5 := hA5.kept (hu_.2 _ (by omega))
          have hA6 := hA6.kept (hu_.2 _ (by omega))
          have hA7 := hA7.kept (hu_.2 _ (by omega))
          have hA8 := hA8.kept (hu_.2 _ (by omega))
          have hA9 := hA9.kept (hu_.2 _ (by omega))
          have hA10 := hA10.kept (hu_.2 _ (by omega))
          have hA11 := hA11.kept (hu_.2 _ (by omega))
          have hA12 := hA12.kept (hu_.2 _ (by omega))
          have hF := hF.up hu_ (by omega)
          refine pb_aload_n C dX3_combine_83 rfl (lv_at hl 1 rfl) ?_
          refine pb_get C in_X3 hO.r (ci := 2) rfl 0 (by decide) q1737 (fun _ h9 => h9) (v := .int (iZ (1))) rfl dX3_combine_84 ?_
          refine pb_if_eq C dX3_combine_87 (x := 1) (tgt := 92) (by decide) (by omega) (fun c87_ => ?_) (fun c87_ => ?_)
          · exact absurd c87_ (by decide)
          · refine pb_ic C dX3_combine_90 ?_
            exact pb_iret C dX3_combine_91 (⟨_, rfl, rfl, ⟨hz, hO, hA1, hA2, hA3, hA4, hA5, hA6, hA7, hA8, hA9, hA10, hA11, hA12⟩, hF⟩)
        · have c48_ := of_decide_eq_true c48_
          refine pb_iload_n C dX3_combine_51 rfl (lv_at hl 4 rfl) ?_
          refine pb_go_x (bc' := 0) (bs' := 0) (pb_runS (rest := [.ref (o)]) C hG (met_X3_isSheet l g (by omega)) (lw_S q1794 q1795 q60 q1796) hdX3_isSheet rfl hl.1 rfl (Nat.le_of_ble_eq_true rfl) ⟨(Nat.le_of_ble_eq_true rfl), (Nat.le_of_ble_eq_true rfl)⟩ dX3_combine_52) (by omega) (by omega) ?_
          refine pb_ifB_eq C dX3_combine_55 (tgt := 66) (by decide) (fun c55_ => ?_) (fun c55_ => ?_)
          · have c55_ := of_decide_eq_false c55_
            refine pb_ic C dX3_combine_66 ?_
            refine pb_goto C dX3_combine_67 (tgt := 80) (by decide) ?_
            refine pb_put C in_X3 tyX3 tyX3_ok nmX3 hO (ci := 2) rfl 0 (by decide) q1737 (fun _ h9 => h9) rfl (v := .int (iZ (1))) rfl rfl (Nat.le_of_ble_eq_true rfl) (by omega) dX3_combine_80 fun H8_ hu_ hO => ?_
            have hO : pb_O w H8_ (o) 2 [.int (iZ (1)), .int (iZ ((S.1 1))), .ref (o + 1), .ref (o + 2), .ref (o + 3), .ref (o + 4), .ref (o + 5), .ref (o + 6), .ref (o + 7), .ref (o + 8), .ref (o + 9), .ref (o + 10), .ref (o + 11), .ref (o + 12), .int (iZ ((S.1 2))), .int (iZ ((S.1 3)))] := hO
            have hG := hG.kept (hu_.z (by omega))
            have hA1 := hA1.kept (hu_.2 _ (by omega))
            have hA2 := hA2.kept (hu_.2 _ (by omega))
            have hA3 := hA3.kept (hu_.2 _ (by omega))
            have hA4 := hA4.kept (hu_.2 _ (by omega))
            have hA5 := hA5.kept (hu_.2 _ (by omega))
            have hA6 := hA6.kept (hu_.2 _ (by omega))
            have hA7 := hA7.kept (hu_.2 _ (by omega))
            have hA8 := hA8.kept (hu_.2 _ (by omega))
            have hA9 := hA9.kept (hu_.2 _ (by omega))
            have hA10 := hA10.kept (hu_.2 _ (by omega))
            have hA11 := hA11.kept (hu_.2 _ (by omega))
            have hA12 := hA12.kept (hu_.2 _ (by omega))
            have hF := hF.up hu_ (by omega)
            refine pb_aload_n C dX3_combine_83 rfl (lv_at hl 1 rfl) ?_
            refine pb_get C in_X3 hO.r (ci := 2) rfl 0 (by decide) q1737 (fun _ h9 => h9) (v := .int (iZ (1))) rfl dX3_combine_84 ?_
            refine pb_if_eq C dX3_combine_87 (x := 1) (tgt := 92) (by decide) (by omega) (fun c87_ => ?_) (fun c87_ => ?_)
            · exact absurd c87_ (by decide)
            · refine pb_ic C dX3_combine_90 ?_
              exact pb_iret C dX3_combine_91 (⟨_, rfl, rfl, ⟨hz, hO, hA1, hA2, hA3, hA4, hA5, hA6, hA7, hA8, hA9, hA10, hA11, hA12⟩, hF⟩)
          · have c55_ := of_decide_eq_true c55_
            refine pb_iload C dX3_combine_58 (lv_at hl 5 rfl) ?_
            refine pb_go_x (bc' := 0) (bs' := 0) (pb_runS (rest := [.ref (o)]) C hG (met_X3_isSheet l t (by omega)) (lw_S q1794 q1795 q60 q1796) hdX3_isSheet rfl hl.1 rfl (Nat.le_of_ble_eq_true rfl) ⟨(Nat.le_of_ble_eq_true rfl), (Nat.le_of_ble_eq_true rfl)⟩ dX3_combine_60) (by omega) (by omega) ?_
            refine pb_ifB_ne C dX3_combine_63 (tgt := 70) (by decide) (fun c63_ => ?_) (fun c63_ => ?_)
            · have c63_ := of_decide_eq_true c63_
              omega
            · have c63_ := of_decide_eq_false c63_
              refine pb_ic C dX3_combine_66 ?_
              refine pb_goto C dX3_combine_67 (tgt := 80) (by decide) ?_
              refine pb_put C in_X3 tyX3 tyX3_ok nmX3 hO (ci := 2) rfl 0 (by decide) q1737 (fun _ h9 => h9) rfl (v := .int (iZ (1))) rfl rfl (Nat.le_of_ble_eq_true rfl) (by omega) dX3_combine_80 fun H9_ hu_ hO => ?_
              have hO : pb_O w H9_ (o) 2 [.int (iZ (1)), .int (iZ ((S.1 1))), .ref (o + 1), .ref (o + 2), .ref (o + 3), .ref (o + 4), .ref (o + 5), .ref (o + 6), .ref (o + 7), .ref (o + 8), .ref (o + 9), .ref (o + 10), .ref (o + 11), .ref (o + 12), .int (iZ ((S.1 2))), .int (iZ ((S.1 3)))] := hO
              have hG := hG.kept (hu_.z (by omega))
              have hA1 := hA1.kept (hu_.2 _ (by omega))
              have hA2 := hA2.kept (hu_.2 _ (by omega))
              have hA3 := hA3.kept (hu_.2 _ (by omega))
              have hA4 := hA4.kept (hu_.2 _ (by omega))
              have hA5 := hA5.kept (hu_.2 _ (by omega))
              have hA6 := hA6.kept (hu_.2 _ (by omega))
              have hA7 := hA7.kept (hu_.2 _ (by omega))
              have hA8 := hA8.kept (hu_.2 _ (by omega))
              have hA9 := hA9.kept (hu_.2 _ (by omega))
              have hA10 := hA10.kept (hu_.2 _ (by omega))
              have hA11 := hA11.kept (hu_.2 _ (by omega))
              have hA12 := hA12.kept (hu_.2 _ (by omega))
              have hF := hF.up hu_ (by omega)
              refine pb_aload_n C dX3_combine_83 rfl (lv_at hl 1 rfl) ?_
              refine pb_get C in_X3 hO.r (ci := 2) rfl 0 (by decide) q1737 (fun _ h9 => h9) (v := .int (iZ (1))) rfl dX3_combine_84 ?_
              refine pb_if_eq C dX3_combine_87 (x := 1) (tgt := 92) (by decide) (by omega) (fun c87_ => ?_) (fun c87_ => ?_)
              · exact absurd c87_ (by decide)
              · refine pb_ic C dX3_combine_90 ?_
                exact pb_iret C dX3_combine_91 (⟨_, rfl, rfl, ⟨hz, hO, hA1, hA2, hA3, hA4, hA5, hA6, hA7, hA8, hA9, hA10, hA11, hA12⟩, hF⟩)
    · refine pb_ic C dX3_combine_16 ?_
      refine pb_goto C dX3_combine_17 (tgt := 41) (by decide) ?_
      refine pb_istore C dX3_combine_41 hl (by decide) rfl fun ls hl => ?_
      have hl : lv_has ls 9 [(5, .int (iZ (2))), (0, .ref (o)), (1, .int (iZ (c))), (2, .int (iZ (f))), (3, .int (iZ (g))), (4, .int (iZ (t)))] := hl
      refine pb_aload_n C dX3_combine_43 rfl (lv_at hl 1 rfl) ?_
      refine pb_iload_n C dX3_combine_44 rfl (lv_at hl 3 rfl) ?_
      refine pb_go_x (bc' := 0) (bs' := 0) (pb_runS (rest := [.ref (o)]) C hG (met_X3_isSheet l f (by omega)) (lw_S q1794 q1795 q60 q1796) hdX3_isSheet rfl hl.1 rfl (Nat.le_of_ble_eq_true rfl) ⟨(Nat.le_of_ble_eq_true rfl), (Nat.le_of_ble_eq_true rfl)⟩ dX3_combine_45) (by omega) (by omega) ?_
      refine pb_ifB_eq C dX3_combine_48 (tgt := 66) (by decide) (fun c48_ => ?_) (fun c48_ => ?_)
      · have c48_ := of_decide_eq_false c48_
        refine pb_ic C dX3_combine_66 ?_
        refine pb_goto C dX3_combine_67 (tgt := 80) (by decide) ?_
        refine pb_put C in_X3 tyX3 tyX3_ok nmX3 hO (ci := 2) rfl 0 (by decide) q1737 (fun _ h9 => h9) rfl (v := .int (iZ (1))) rfl rfl (Nat.le_of_ble_eq_true rfl) (by omega) dX3_combine_80 fun H10_ hu_ hO => ?_
        have hO : pb_O w H10_ (o) 2 [.int (iZ (1)), .int (iZ ((S.1 1))), .ref (o + 1), .ref (o + 2), .ref (o + 3), .ref (o + 4), .ref (o + 5), .ref (o + 6), .ref (o + 7), .ref (o + 8), .ref (o + 9), .ref (o + 10), .ref (o + 11), .ref (o + 12), .int (iZ ((S.1 2))), .int (iZ ((S.1 3)))] := hO
        have hG := hG.kept (hu_.z (by omega))
        have hA1 := hA1.kept (hu_.2 _ (by omega))
        have hA2 := hA2.kept (hu_.2 _ (by omega))
        have hA3 := hA3.kept (hu_.2 _ (by omega))
        have hA4 := hA4.kept (hu_.2 _ (by omega))
        have hA5 := hA5.kept (hu_.2 _ (by omega))
        have hA6 := hA6.kept (hu_.2 _ (by omega))
        have hA7 := hA7.kept (hu_.2 _ (by omega))
        have hA8 := hA8.kept (hu_.2 _ (by omega))
        have hA9 := hA9.kept (hu_.2 _ (by omega))
        have hA10 := hA10.kept (hu_.2 _ (by omega))
        have hA11 := hA11.kept (hu_.2 _ (by omega))
        have hA12 := hA12.kept (hu_.2 _ (by omega))
        have hF := hF.up hu_ (by omega)
        refine pb_aload_n C dX3_combine_83 rfl (lv_at hl 1 rfl) ?_
        refine pb_get C in_X3 hO.r (ci := 2) rfl 0 (by decide) q1737 (fun _ h9 => h9) (v := .int (iZ (1))) rfl dX3_combine_84 ?_
        refine pb_if_eq C dX3_combine_87 (x := 1) (tgt := 92) (by decide) (by omega) (fun c87_ => ?_) (fun c87_ => ?_)
        · exact absurd c87_ (by decide)
        · refine pb_ic C dX3_combine_90 ?_
          exact pb_iret C dX3_combine_91 (⟨_, rfl, rfl, ⟨hz, hO, hA1, hA2, hA3, hA4, hA5, hA6, hA7, hA8, hA9, hA10, hA11, hA12⟩, hF⟩)
      · have c48_ := of_decide_eq_true c48_
        refine pb_iload_n C dX3_combine_51 rfl (lv_at hl 4 rfl) ?_
        refine pb_go_x (bc' := 0) (bs' := 0) (pb_runS (rest := [.ref (o)]) C hG (met_X3_isSheet l g (by omega)) (lw_S q1794 q1795 q60 q1796) hdX3_isSheet rfl hl.1 rfl (Nat.le_of_ble_eq_true rfl) ⟨(Nat.le_of_ble_eq_true rfl), (Nat.le_of_ble_eq_true rfl)⟩ dX3_combine_52) (by omega) (by omega) ?_
        refine pb_ifB_eq C dX3_combine_55 (tgt := 66) (by decide) (fun c55_ => ?_) (fun c55_ => ?_)
        · have c55_ := of_decide_eq_false c55_
          refine pb_ic C dX3_combine_66 ?_
          refine pb_goto C dX3_combine_67 (tgt := 80) (by decide) ?_
          refine pb_put C in_X3 tyX3 tyX3_ok nmX3 hO (ci := 2) rfl 0 (by decide) q1737 (fun _ h9 => h9) rfl (v := .int (iZ (1))) rfl rfl (Nat.le_of_ble_eq_true rfl) (by omega) dX3_combine_80 fun H11_ hu_ hO => ?_
          have hO : pb_O w H11_ (o) 2 [.int (iZ (1)), .int (iZ ((S.1 1))), .ref (o + 1), .ref (o + 2), .ref (o + 3), .ref (o + 4), .ref (o + 5), .ref (o + 6), .ref (o + 7), .ref (o + 8), .ref (o + 9), .ref (o + 10), .ref (o + 11), .ref (o + 12), .int (iZ ((S.1 2))), .int (iZ ((S.1 3)))] := hO
          have hG := hG.kept (hu_.z (by omega))
          have hA1 := hA1.kept (hu_.2 _ (by omega))
          have hA2 := hA2.kept (hu_.2 _ (by omega))
          have hA3 := hA3.kept (hu_.2 _ (by omega))
          have hA4 := hA4.kept (hu_.2 _ (by omega))
          have hA5 := hA5.kept (hu_.2 _ (by omega))
          have hA6 := hA6.kept (hu_.2 _ (by omega))
          have hA7 := hA7.kept (hu_.2 _ (by omega))
          have hA8 := hA8.kept (hu_.2 _ (by omega))
          have hA9 := hA9.kept (hu_.2 _ (by omega))
          have hA10 := hA10.kept (hu_.2 _ (by omega))
          have hA11 := hA11.kept (hu_.2 _ (by omega))
          have hA12 := hA12.kept (hu_.2 _ (by omega))
          have hF := hF.up hu_ (by omega)
          refine pb_aload_n C dX3_combine_83 rfl (lv_at hl 1 rfl) ?_
          refine pb_get C in_X3 hO.r (ci := 2) rfl 0 (by decide) q1737 (fun _ h9 => h9) (v := .int (iZ (1))) rfl dX3_combine_84 ?_
          refine pb_if_eq C dX3_combine_87 (x := 1) (tgt := 92) (by decide) (by omega) (fun c87_ => ?_) (fun c87_ => ?_)
          · exact absurd c87_ (by decide)
          · refine pb_ic C dX3_combine_90 ?_
            exact pb_iret C dX3_combine_91 (⟨_, rfl, rfl, ⟨hz, hO, hA1, hA2, hA3, hA4, hA5, hA6, hA7, hA8, hA9, hA10, hA11, hA12⟩, hF⟩)
        · have c55_ := of_decide_eq_true c55_
          refine pb_iload C dX3_combine_58 (lv_at hl 5 rfl) ?_
          refine pb_go_x (bc' := 0) (bs' := 0) (pb_runS (rest := [.ref (o)]) C hG (met_X3_isSheet l t (by omega)) (lw_S q1794 q1795 q60 q1796) hdX3_isSheet rfl hl.1 rfl (Nat.le_of_ble_eq_true rfl) ⟨(Nat.le_of_ble_eq_true rfl), (Nat.le_of_ble_eq_true rfl)⟩ dX3_combine_60) (by omega) (by omega) ?_
          refine pb_ifB_ne C dX3_combine_63 (tgt := 70) (by decide) (fun c63_ => ?_) (fun c63_ => ?_)
          · have c63_ := of_decide_eq_true c63_
            omega
          · have c63_ := of_decide_eq_false c63_
            refine pb_ic C dX3_combine_66 ?_
            refine pb_goto C dX3_combine_67 (tgt := 80) (by decide) ?_
            refine pb_put C in_X3 tyX3 tyX3_ok nmX3 hO (ci := 2) rfl 0 (by decide) q1737 (fun _ h9 => h9) rfl (v := .int (iZ (1))) rfl rfl (Nat.le_of_ble_eq_true rfl) (by omega) dX3_combine_80 fun H12_ hu_ hO => ?_
            have hO : pb_O w H12_ (o) 2 [.int (iZ (1)), .int (iZ ((S.1 1))), .ref (o + 1), .ref (o + 2), .ref (o + 3), .ref (o + 4), .ref (o + 5), .ref (o + 6), .ref (o + 7), .ref (o + 8), .ref (o + 9), .ref (o + 10), .ref (o + 11), .ref (o + 12), .int (iZ ((S.1 2))), .int (iZ ((S.1 3)))] := hO
            have hG := hG.kept (hu_.z (by omega))
            have hA1 := hA1.kept (hu_.2 _ (by omega))
            have hA2 := hA2.kept (hu_.2 _ (by omega))
            have hA3 := hA3.kept (hu_.2 _ (by omega))
            have hA4 := hA4.kept (hu_.2 _ (by omega))
            have hA5 := hA5.kept (hu_.2 _ (by omega))
            have hA6 := hA6.kept (hu_.2 _ (by omega))
            have hA7 := hA7.kept (hu_.2 _ (by omega))
            have hA8 := hA8.kept (hu_.2 _ (by omega))
            have hA9 := hA9.kept (hu_.2 _ (by omega))
            have hA10 := hA10.kept (hu_.2 _ (by omega))
            have hA11 := hA11.kept (hu_.2 _ (by omega))
            have hA12 := hA12.kept (hu_.2 _ (by omega))
            have hF := hF.up hu_ (by omega)
            refine pb_aload_n C dX3_combine_83 rfl (lv_at hl 1 rfl) ?_
            refine pb_get C in_X3 hO.r (ci := 2) rfl 0 (by decide) q1737 (fun _ h9 => h9) (v := .int (iZ (1))) rfl dX3_combine_84 ?_
            refine pb_if_eq C dX3_combine_87 (x := 1) (tgt := 92) (by decide) (by omega) (fun c87_ => ?_) (fun c87_ => ?_)
            · exact absurd c87_ (by decide)
            · refine pb_ic C dX3_combine_90 ?_
              exact pb_iret C dX3_combine_91 (⟨_, rfl, rfl, ⟨hz, hO, hA1, hA2, hA3, hA4, hA5, hA6, hA7, hA8, hA9, hA10, hA11, hA12⟩, hF⟩)
  · refine pb_ic C dX3_combine_6 ?_
    refine pb_goto C dX3_combine_7 (tgt := 41) (by decide) ?_
    refine pb_istore C dX3_combine_41 hl (by decide) rfl fun ls hl => ?_
    have hl : lv_has ls 9 [(5, .int (iZ (1))), (0, .ref (o)), (1, .int (iZ (c))), (2, .int (iZ (f))), (3, .int (iZ (g))), (4, .int (iZ (t)))] := hl
    refine pb_aload_n C dX3_combine_43 rfl (lv_at hl 1 rfl) ?_
    refine pb_iload_n C dX3_combine_44 rfl (lv_at hl 3 rfl) ?_
    refine pb_go_x (bc' := 0) (bs' := 0) (pb_runS (rest := [.ref (o)]) C hG (met_X3_isSheet l f (by omega)) (lw_S q1794 q1795 q60 q1796) hdX3_isSheet rfl hl.1 rfl (Nat.le_of_ble_eq_true rfl) ⟨(Nat.le_of_ble_eq_true rfl), (Nat.le_of_ble_eq_true rfl)⟩ dX3_combine_45) (by omega) (by omega) ?_
    refine pb_ifB_eq C dX3_combine_48 (tgt := 66) (by decide) (fun c48_ => ?_) (fun c48_ => ?_)
    · have c48_ := of_decide_eq_false c48_
      refine pb_ic C dX3_combine_66 ?_
      refine pb_goto C dX3_combine_67 (tgt := 80) (by decide) ?_
      refine pb_put C in_X3 tyX3 tyX3_ok nmX3 hO (ci := 2) rfl 0 (by decide) q1737 (fun _ h9 => h9) rfl (v := .int (iZ (1))) rfl rfl (Nat.le_of_ble_eq_true rfl) (by omega) dX3_combine_80 fun H13_ hu_ hO => ?_
      have hO : pb_O w H13_ (o) 2 [.int (iZ (1)), .int (iZ ((S.1 1))), .ref (o + 1), .ref (o + 2), .ref (o + 3), .ref (o + 4), .ref (o + 5), .ref (o + 6), .ref (o + 7), .ref (o + 8), .ref (o + 9), .ref (o + 10), .ref (o + 11), .ref (o + 12), .int (iZ ((S.1 2))), .int (iZ ((S.1 3)))] := hO
      have hG := hG.kept (hu_.z (by omega))
      have hA1 := hA1.kept (hu_.2 _ (by omega))
      have hA2 := hA2.kept (hu_.2 _ (by omega))
      have hA3 := hA3.kept (hu_.2 _ (by omega))
      have hA4 := hA4.kept (hu_.2 _ (by omega))
      have hA5 := hA5.kept (hu_.2 _ (by omega))
      have hA6 := hA6.kept (hu_.2 _ (by omega))
      have hA7 := hA7.kept (hu_.2 _ (by omega))
      have hA8 := hA8.kept (hu_.2 _ (by omega))
      have hA9 := hA9.kept (hu_.2 _ (by omega))
      have hA10 := hA10.kept (hu_.2 _ (by omega))
      have hA11 := hA11.kept (hu_.2 _ (by omega))
      have hA12 := hA12.kept (hu_.2 _ (by omega))
      have hF := hF.up hu_ (by omega)
      refine pb_aload_n C dX3_combine_83 rfl (lv_at hl 1 rfl) ?_
      refine pb_get C in_X3 hO.r (ci := 2) rfl 0 (by decide) q1737 (fun _ h9 => h9) (v := .int (iZ (1))) rfl dX3_combine_84 ?_
      refine pb_if_eq C dX3_combine_87 (x := 1) (tgt := 92) (by decide) (by omega) (fun c87_ => ?_) (fun c87_ => ?_)
      · exact absurd c87_ (by decide)
      · refine pb_ic C dX3_combine_90 ?_
        exact pb_iret C dX3_combine_91 (⟨_, rfl, rfl, ⟨hz, hO, hA1, hA2, hA3, hA4, hA5, hA6, hA7, hA8, hA9, hA10, hA11, hA12⟩, hF⟩)
    · have c48_ := of_decide_eq_true c48_
      refine pb_iload_n C dX3_combine_51 rfl (lv_at hl 4 rfl) ?_
      refine pb_go_x (bc' := 0) (bs' := 0) (pb_runS (rest := [.ref (o)]) C hG (met_X3_isSheet l g (by omega)) (lw_S q1794 q1795 q60 q1796) hdX3_isSheet rfl hl.1 rfl (Nat.le_of_ble_eq_true rfl) ⟨(Nat.le_of_ble_eq_true rfl), (Nat.le_of_ble_eq_true rfl)⟩ dX3_combine_52) (by omega) (by omega) ?_
      refine pb_ifB_eq C dX3_combine_55 (tgt := 66) (by decide) (fun c55_ => ?_) (fun c55_ => ?_)
      · have c55_ := of_decide_eq_false c55_
        refine pb_ic C dX3_combine_66 ?_
        refine pb_goto C dX3_combine_67 (tgt := 80) (by decide) ?_
        refine pb_put C in_X3 tyX3 tyX3_ok nmX3 hO (ci := 2) rfl 0 (by decide) q1737 (fun _ h9 => h9) rfl (v := .int (iZ (1))) rfl rfl (Nat.le_of_ble_eq_true rfl) (by omega) dX3_combine_80 fun H14_ hu_ hO => ?_
        have hO : pb_O w H14_ (o) 2 [.int (iZ (1)), .int (iZ ((S.1 1))), .ref (o + 1), .ref (o + 2), .ref (o + 3), .ref (o + 4), .ref (o + 5), .ref (o + 6), .ref (o + 7), .ref (o + 8), .ref (o + 9), .ref (o + 10), .ref (o + 11), .ref (o + 12), .int (iZ ((S.1 2))), .int (iZ ((S.1 3)))] := hO
        have hG := hG.kept (hu_.z (by omega))
        have hA1 := hA1.kept (hu_.2 _ (by omega))
        have hA2 := hA2.kept (hu_.2 _ (by omega))
        have hA3 := hA3.kept (hu_.2 _ (by omega))
        have hA4 := hA4.kept (hu_.2 _ (by omega))
        have hA5 := hA5.kept (hu_.2 _ (by omega))
        have hA6 := hA6.kept (hu_.2 _ (by omega))
        have hA7 := hA7.kept (hu_.2 _ (by omega))
        have hA8 := hA8.kept (hu_.2 _ (by omega))
        have hA9 := hA9.kept (hu_.2 _ (by omega))
        have hA10 := hA10.kept (hu_.2 _ (by omega))
        have hA11 := hA11.kept (hu_.2 _ (by omega))
        have hA12 := hA12.kept (hu_.2 _ (by omega))
        have hF := hF.up hu_ (by omega)
        refine pb_aload_n C dX3_combine_83 rfl (lv_at hl 1 rfl) ?_
        refine pb_get C in_X3 hO.r (ci := 2) rfl 0 (by decide) q1737 (fun _ h9 => h9) (v := .int (iZ (1))) rfl dX3_combine_84 ?_
        refine pb_if_eq C dX3_combine_87 (x := 1) (tgt := 92) (by decide) (by omega) (fun c87_ => ?_) (fun c87_ => ?_)
        · exact absurd c87_ (by decide)
        · refine pb_ic C dX3_combine_90 ?_
          exact pb_iret C dX3_combine_91 (⟨_, rfl, rfl, ⟨hz, hO, hA1, hA2, hA3, hA4, hA5, hA6, hA7, hA8, hA9, hA10, hA11, hA12⟩, hF⟩)
      · have c55_ := of_decide_eq_true c55_
        refine pb_iload C dX3_combine_58 (lv_at hl 5 rfl) ?_
        refine pb_go_x (bc' := 0) (bs' := 0) (pb_runS (rest := [.ref (o)]) C hG (met_X3_isSheet l t (by omega)) (lw_S q1794 q1795 q60 q1796) hdX3_isSheet rfl hl.1 rfl (Nat.le_of_ble_eq_true rfl) ⟨(Nat.le_of_ble_eq_true rfl), (Nat.le_of_ble_eq_true rfl)⟩ dX3_combine_60) (by omega) (by omega) ?_
        refine pb_ifB_ne C dX3_combine_63 (tgt := 70) (by decide) (fun c63_ => ?_) (fun c63_ => ?_)
        · have c63_ := of_decide_eq_true c63_
          omega
        · have c63_ := of_decide_eq_false c63_
          refine pb_ic C dX3_combine_66 ?_
          refine pb_goto C dX3_combine_67 (tgt := 80) (by decide) ?_
          refine pb_put C in_X3 tyX3 tyX3_ok nmX3 hO (ci := 2) rfl 0 (by decide) q1737 (fun _ h9 => h9) rfl (v := .int (iZ (1))) rfl rfl (Nat.le_of_ble_eq_true rfl) (by omega) dX3_combine_80 fun H15_ hu_ hO => ?_
          have hO : pb_O w H15_ (o) 2 [.int (iZ (1)), .int (iZ ((S.1 1))), .ref (o + 1), .ref (o + 2), .ref (o + 3), .ref (o + 4), .ref (o + 5), .ref (o + 6), .ref (o + 7), .ref (o + 8), .ref (o + 9), .ref (o + 10), .ref (o + 11), .ref (o + 12), .int (iZ ((S.1 2))), .int (iZ ((S.1 3)))] := hO
          have hG := hG.kept (hu_.z (by omega))
          have hA1 := hA1.kept (hu_.2 _ (by omega))
          have hA2 := hA2.kept (hu_.2 _ (by omega))
          have hA3 := hA3.kept (hu_.2 _ (by omega))
          have hA4 := hA4.kept (hu_.2 _ (by omega))
          have hA5 := hA5.kept (hu_.2 _ (by omega))
          have hA6 := hA6.kept (hu_.2 _ (by omega))
          have hA7 := hA7.kept (hu_.2 _ (by omega))
          have hA8 := hA8.kept (hu_.2 _ (by omega))
          have hA9 := hA9.kept (hu_.2 _ (by omega))
          have hA10 := hA10.kept (hu_.2 _ (by omega))
          have hA11 := hA11.kept (hu_.2 _ (by omega))
          have hA12 := hA12.kept (hu_.2 _ (by omega))
          have hF := hF.up hu_ (by omega)
          refine pb_aload_n C dX3_combine_83 rfl (lv_at hl 1 rfl) ?_
          refine pb_get C in_X3 hO.r (ci := 2) rfl 0 (by decide) q1737 (fun _ h9 => h9) (v := .int (iZ (1))) rfl dX3_combine_84 ?_
          refine pb_if_eq C dX3_combine_87 (x := 1) (tgt := 92) (by decide) (by omega) (fun c87_ => ?_) (fun c87_ => ?_)
          · exact absurd c87_ (by decide)
          · refine pb_ic C dX3_combine_90 ?_
            exact pb_iret C dX3_combine_91 (⟨_, rfl, rfl, ⟨hz, hO, hA1, hA2, hA3, hA4, hA5, hA6, hA7, hA8, hA9, hA10, hA11, hA12⟩, hF⟩)

set_option maxHeartbeats 1000000 in
theorem met_X3_combine_2 {w : pb_W} (l : Launch) {H0 : Heap} (o : Nat) (S : mS) (hM : MW w H0 o S) (c f g t : Int) (hc : 0 ≤ c ∧ c ≤ 65535) (hfr : -2147483648 ≤ f ∧ f ≤ 2147483647) (hgr : -2147483648 ≤ g ∧ g ≤ 2147483647) (htr : -2147483648 ≤ t ∧ t ≤ 2147483647) (hn : ((0 ≤ f ∧ f ≤ 7) ∧ (0 ≤ g ∧ g ≤ 7) ∧ (0 ≤ t ∧ t ≤ 7))) (h1 : c ≠ 117) (h2 : c ≠ 105) (h3 : c ≠ 100) (h4 : c ≠ 120) : pb_M w l yX3_combine cX3_combine 9 (some .int) 6 (0) (0) [.ref (o), .int (iZ (c)), .int (iZ (f)), .int (iZ (g)), .int (iZ (t))] H0 (pb_qi (fun z H1 => z = 0 ∧ MW w H1 o (mI S 0 2) ∧ mF o H0 H1)) := by
  refine pb_of (by decide +kernel) (Nat.le_of_ble_eq_true rfl) ?_
  intro p_ e_ s_ m_ ar_ bl_ me_ co_ ls C hh hG hl
  have hl : lv_has ls 9 [(0, .ref (o)), (1, .int (iZ (c))), (2, .int (iZ (f))), (3, .int (iZ (g))), (4, .int (iZ (t)))] := hl
  have hM0 := hM; obtain ⟨hz, hO, hA1, hA2, hA3, hA4, hA5, hA6, hA7, hA8, hA9, hA10, hA11, hA12⟩ := hM0
  have hF : mF o H0 H0 := mF.rf
  refine pb_iload_n C dX3_combine_0 rfl (lv_at hl 1 rfl) ?_
  refine pb_bip C dX3_combine_1 (by decide) ?_
  refine pb_icmp_ne C dX3_combine_3 (x := c) (y := 117) (tgt := 10) (by decide) (by omega) (by omega) (fun c3_ => ?_) (fun c3_ => ?_)
  · refine pb_iload_n C dX3_combine_10 rfl (lv_at hl 1 rfl) ?_
    refine pb_bip C dX3_combine_11 (by decide) ?_
    refine pb_icmp_ne C dX3_combine_13 (x := c) (y := 105) (tgt := 20) (by decide) (by omega) (by omega) (fun c13_ => ?_) (fun c13_ => ?_)
    · refine pb_iload_n C dX3_combine_20 rfl (lv_at hl 1 rfl) ?_
      refine pb_bip C dX3_combine_21 (by decide) ?_
      refine pb_icmp_ne C dX3_combine_23 (x := c) (y := 100) (tgt := 30) (by decide) (by omega) (by omega) (fun c23_ => ?_) (fun c23_ => ?_)
      · refine pb_iload_n C dX3_combine_30 rfl (lv_at hl 1 rfl) ?_
        refine pb_bip C dX3_combine_31 (by decide) ?_
        refine pb_icmp_ne C dX3_combine_33 (x := c) (y := 120) (tgt := 40) (by decide) (by omega) (by omega) (fun c33_ => ?_) (fun c33_ => ?_)
        · refine pb_ic C dX3_combine_40 ?_
          refine pb_istore C dX3_combine_41 hl (by decide) rfl fun ls hl => ?_
          have hl : lv_has ls 9 [(5, .int (iZ (0))), (0, .ref (o)), (1, .int (iZ (c))), (2, .int (iZ (f))), (3, .int (iZ (g))), (4, .int (iZ (t)))] := hl
          refine pb_aload_n C dX3_combine_43 rfl (lv_at hl 1 rfl) ?_
          refine pb_iload_n C dX3_combine_44 rfl (lv_at hl 3 rfl) ?_
          refine pb_go_x (bc' := 0) (bs' := 0) (pb_runS (rest := [.ref (o)]) C hG (met_X3_isSheet l f (by omega)) (lw_S q1794 q1795 q60 q1796) hdX3_isSheet rfl hl.1 rfl (Nat.le_of_ble_eq_true rfl) ⟨(Nat.le_of_ble_eq_true rfl), (Nat.le_of_ble_eq_true rfl)⟩ dX3_combine_45) (by omega) (by omega) ?_
          refine pb_ifB_eq C dX3_combine_48 (tgt := 66) (by decide) (fun c48_ => ?_) (fun c48_ => ?_)
          · have c48_ := of_decide_eq_false c48_
            omega
          · have c48_ := of_decide_eq_true c48_
            refine pb_iload_n C dX3_combine_51 rfl (lv_at hl 4 rfl) ?_
            refine pb_go_x (bc' := 0) (bs' := 0) (pb_runS (rest := [.ref (o)]) C hG (met_X3_isSheet l g (by omega)) (lw_S q1794 q1795 q60 q1796) hdX3_isSheet rfl hl.1 rfl (Nat.le_of_ble_eq_true rfl) ⟨(Nat.le_of_ble_eq_true rfl), (Nat.le_of_ble_eq_true rfl)⟩ dX3_combine_52) (by omega) (by omega) ?_
            refine pb_ifB_eq C dX3_combine_55 (tgt := 66) (by decide) (fun c55_ => ?_) (fun c55_ => ?_)
            · have c55_ := of_decide_eq_false c55_
              omega
            · have c55_ := of_decide_eq_true c55_
              refine pb_iload C dX3_combine_58 (lv_at hl 5 rfl) ?_
              refine pb_go_x (bc' := 0) (bs' := 0) (pb_runS (rest := [.ref (o)]) C hG (met_X3_isSheet l t (by omega)) (lw_S q1794 q1795 q60 q1796) hdX3_isSheet rfl hl.1 rfl (Nat.le_of_ble_eq_true rfl) ⟨(Nat.le_of_ble_eq_true rfl), (Nat.le_of_ble_eq_true rfl)⟩ dX3_combine_60) (by omega) (by omega) ?_
              refine pb_ifB_ne C dX3_combine_63 (tgt := 70) (by decide) (fun c63_ => ?_) (fun c63_ => ?_)
              · have c63_ := of_decide_eq_true c63_
                refine pb_iload C dX3_combine_70 (lv_at hl 0 rfl) ?_
                refine pb_if_ne C dX3_combine_72 (x := 0) (tgt := 79) (by decide) (by omega) (fun c72_ => ?_) (fun c72_ => ?_)
                · exact absurd c72_ (by decide)
                · refine pb_ic C dX3_combine_75 ?_
                  refine pb_goto C dX3_combine_76 (tgt := 80) (by decide) ?_
                  refine pb_put C in_X3 tyX3 tyX3_ok nmX3 hO (ci := 2) rfl 0 (by decide) q1737 (fun _ h9 => h9) rfl (v := .int (iZ (2))) rfl rfl (Nat.le_of_ble_eq_true rfl) (by omega) dX3_combine_80 fun H1_ hu_ hO => ?_
                  have hO : pb_O w H1_ (o) 2 [.int (iZ (2)), .int (iZ ((S.1 1))), .ref (o + 1), .ref (o + 2), .ref (o + 3), .ref (o + 4), .ref (o + 5), .ref (o + 6), .ref (o + 7), .ref (o + 8), .ref (o + 9), .ref (o + 10), .ref (o + 11), .ref (o + 12), .int (iZ ((S.1 2))), .int (iZ ((S.1 3)))] := hO
                  have hG := hG.kept (hu_.z (by omega))
                  have hA1 := hA1.kept (hu_.2 _ (by omega))
                  have hA2 := hA2.kept (hu_.2 _ (by omega))
                  have hA3 := hA3.kept (hu_.2 _ (by omega))
                  have hA4 := hA4.kept (hu_.2 _ (by omega))
                  have hA5 := hA5.kept (hu_.2 _ (by omega))
                  have hA6 := hA6.kept (hu_.2 _ (by omega))
                  have hA7 := hA7.kept (hu_.2 _ (by omega))
                  have hA8 := hA8.kept (hu_.2 _ (by omega))
                  have hA9 := hA9.kept (hu_.2 _ (by omega))
                  have hA10 := hA10.kept (hu_.2 _ (by omega))
                  have hA11 := hA11.kept (hu_.2 _ (by omega))
                  have hA12 := hA12.kept (hu_.2 _ (by omega))
                  have hF := hF.up hu_ (by omega)
                  refine pb_aload_n C dX3_combine_83 rfl (lv_at hl 1 rfl) ?_
                  refine pb_get C in_X3 hO.r (ci := 2) rfl 0 (by decide) q1737 (fun _ h9 => h9) (v := .int (iZ (2))) rfl dX3_combine_84 ?_
                  refine pb_if_eq C dX3_combine_87 (x := 2) (tgt := 92) (by decide) (by omega) (fun c87_ => ?_) (fun c87_ => ?_)
                  · exact absurd c87_ (by decide)
                  · refine pb_ic C dX3_combine_90 ?_
                    exact pb_iret C dX3_combine_91 (⟨_, rfl, rfl, ⟨hz, hO, hA1, hA2, hA3, hA4, hA5, hA6, hA7, hA8, hA9, hA10, hA11, hA12⟩, hF⟩)
              · have c63_ := of_decide_eq_false c63_
                omega
        · omega
      · omega
    · omega
  · omega

set_option maxHeartbeats 1000000 in
theorem met_X3_isDistance {w : pb_W} (l : Launch) {H0 : Heap} (o : Nat) (S : mS) (hM : MW w H0 o S) (s t : Nat) (hs : s < 8) (ht : t < 8) (d : Int) (hd : 0 ≤ d ∧ d ≤ 8) : pb_M w l yX3_isDistance cX3_isDistance 4 (some .boolean) 2 (0) (0) [.ref (o), .int (iZ (((s : Nat) : Int))), .int (iZ (d)), .int (iZ (((t : Nat) : Int)))] H0 (pb_qi (fun z H1 => z = 1 ∧ MW w H1 o (mI S 0 0) ∧ mF o H0 H1)) := by
  refine pb_of (by decide +kernel) (Nat.le_of_ble_eq_true rfl) ?_
  intro p_ e_ s_ m_ ar_ bl_ me_ co_ ls C hh hG hl
  have hl : lv_has ls 4 [(0, .ref (o)), (1, .int (iZ (((s : Nat) : Int)))), (2, .int (iZ (d))), (3, .int (iZ (((t : Nat) : Int))))] := hl
  have hM0 := hM; obtain ⟨hz, hO, hA1, hA2, hA3, hA4, hA5, hA6, hA7, hA8, hA9, hA10, hA11, hA12⟩ := hM0
  have hF : mF o H0 H0 := mF.rf
  refine pb_aload_n C dX3_isDistance_0 rfl (lv_at hl 0 rfl) ?_
  refine pb_iload_n C dX3_isDistance_1 rfl (lv_at hl 1 rfl) ?_
  refine pb_go_x (bc' := 0) (bs' := 0) (pb_runS (rest := [.ref (o)]) C hG (met_X3_isSheet l (((s : Nat) : Int)) (by omega)) (lw_S q1794 q1795 q60 q1796) hdX3_isSheet rfl hl.1 rfl (Nat.le_of_ble_eq_true rfl) ⟨(Nat.le_of_ble_eq_true rfl), (Nat.le_of_ble_eq_true rfl)⟩ dX3_isDistance_2) (by omega) (by omega) ?_
  refine pb_ifB_eq C dX3_isDistance_5 (tgt := 15) (by decide) (fun c5_ => ?_) (fun c5_ => ?_)
  · have c5_ := of_decide_eq_false c5_
    omega
  · have c5_ := of_decide_eq_true c5_
    refine pb_iload_n C dX3_isDistance_8 rfl (lv_at hl 3 rfl) ?_
    refine pb_go_x (bc' := 0) (bs' := 0) (pb_runS (rest := [.ref (o)]) C hG (met_X3_isSheet l (((t : Nat) : Int)) (by omega)) (lw_S q1794 q1795 q60 q1796) hdX3_isSheet rfl hl.1 rfl (Nat.le_of_ble_eq_true rfl) ⟨(Nat.le_of_ble_eq_true rfl), (Nat.le_of_ble_eq_true rfl)⟩ dX3_isDistance_9) (by omega) (by omega) ?_
    refine pb_ifB_ne C dX3_isDistance_12 (tgt := 19) (by decide) (fun c12_ => ?_) (fun c12_ => ?_)
    · have c12_ := of_decide_eq_true c12_
      refine pb_iload_n C dX3_isDistance_19 rfl (lv_at hl 2 rfl) ?_
      refine pb_ic C dX3_isDistance_20 ?_
      refine pb_bip C dX3_isDistance_21 (by decide) ?_
      refine pb_go_x (bc' := 0) (bs' := 0) (pb_runS (rest := [.ref (o)]) C hG (met_X3_isIn l d 0 8 (by omega) (by omega) (by omega)) (lw_S q1797 q1798 q60 q1799) hdX3_isIn rfl hl.1 rfl (Nat.le_of_ble_eq_true rfl) ⟨(Nat.le_of_ble_eq_true rfl), (Nat.le_of_ble_eq_true rfl)⟩ dX3_isDistance_23) (by omega) (by omega) ?_
      refine pb_ifB_ne C dX3_isDistance_26 (tgt := 33) (by decide) (fun c26_ => ?_) (fun c26_ => ?_)
      · have c26_ := of_decide_eq_true c26_
        refine pb_ic C dX3_isDistance_33 ?_
        refine pb_put C in_X3 tyX3 tyX3_ok nmX3 hO (ci := 2) rfl 0 (by decide) q1737 (fun _ h9 => h9) rfl (v := .int (iZ (0))) rfl rfl (Nat.le_of_ble_eq_true rfl) (by omega) dX3_isDistance_34 fun H1_ hu_ hO => ?_
        have hO : pb_O w H1_ (o) 2 [.int (iZ (0)), .int (iZ ((S.1 1))), .ref (o + 1), .ref (o + 2), .ref (o + 3), .ref (o + 4), .ref (o + 5), .ref (o + 6), .ref (o + 7), .ref (o + 8), .ref (o + 9), .ref (o + 10), .ref (o + 11), .ref (o + 12), .int (iZ ((S.1 2))), .int (iZ ((S.1 3)))] := hO
        have hG := hG.kept (hu_.z (by omega))
        have hA1 := hA1.kept (hu_.2 _ (by omega))
        have hA2 := hA2.kept (hu_.2 _ (by omega))
        have hA3 := hA3.kept (hu_.2 _ (by omega))
        have hA4 := hA4.kept (hu_.2 _ (by omega))
        have hA5 := hA5.kept (hu_.2 _ (by omega))
        have hA6 := hA6.kept (hu_.2 _ (by omega))
        have hA7 := hA7.kept (hu_.2 _ (by omega))
        have hA8 := hA8.kept (hu_.2 _ (by omega))
        have hA9 := hA9.kept (hu_.2 _ (by omega))
        have hA10 := hA10.kept (hu_.2 _ (by omega))
        have hA11 := hA11.kept (hu_.2 _ (by omega))
        have hA12 := hA12.kept (hu_.2 _ (by omega))
        have hF := hF.up hu_ (by omega)
        refine pb_aload_n C dX3_isDistance_37 rfl (lv_at hl 0 rfl) ?_
        refine pb_get C in_X3 hO.r (ci := 2) rfl 0 (by decide) q1737 (fun _ h9 => h9) (v := .int (iZ (0))) rfl dX3_isDistance_38 ?_
        refine pb_if_ne C dX3_isDistance_41 (x := 0) (tgt := 48) (by decide) (by omega) (fun c41_ => ?_) (fun c41_ => ?_)
        · exact absurd c41_ (by decide)
        · refine pb_ic C dX3_isDistance_44 ?_
          refine pb_goto C dX3_isDistance_45 (tgt := 49) (by decide) ?_
          exact pb_zret C dX3_isDistance_49 (by decide +kernel) (⟨_, rfl, rfl, ⟨hz, hO, hA1, hA2, hA3, hA4, hA5, hA6, hA7, hA8, hA9, hA10, hA11, hA12⟩, hF⟩)
      · have c26_ := of_decide_eq_false c26_
        omega
    · have c12_ := of_decide_eq_false c12_
      omega

set_option maxHeartbeats 1000000 in
theorem met_X3_isDistance_1 {w : pb_W} (l : Launch) {H0 : Heap} (o : Nat) (S : mS) (hM : MW w H0 o S) (s t : Int) (hsr : -2147483648 ≤ s ∧ s ≤ 2147483647) (htr : -2147483648 ≤ t ∧ t ≤ 2147483647) (d : Int) (hd : -2147483648 ≤ d ∧ d ≤ 2147483647) (hn : ¬ ((0 ≤ s ∧ s ≤ 7) ∧ 0 ≤ t ∧ t ≤ 7)) : pb_M w l yX3_isDistance cX3_isDistance 4 (some .boolean) 2 (0) (0) [.ref (o), .int (iZ (s)), .int (iZ (d)), .int (iZ (t))] H0 (pb_qi (fun z H1 => z = 0 ∧ MW w H1 o (mI S 0 1) ∧ mF o H0 H1)) := by
  refine pb_of (by decide +kernel) (Nat.le_of_ble_eq_true rfl) ?_
  intro p_ e_ s_ m_ ar_ bl_ me_ co_ ls C hh hG hl
  have hl : lv_has ls 4 [(0, .ref (o)), (1, .int (iZ (s))), (2, .int (iZ (d))), (3, .int (iZ (t)))] := hl
  have hM0 := hM; obtain ⟨hz, hO, hA1, hA2, hA3, hA4, hA5, hA6, hA7, hA8, hA9, hA10, hA11, hA12⟩ := hM0
  have hF : mF o H0 H0 := mF.rf
  refine pb_aload_n C dX3_isDistance_0 rfl (lv_at hl 0 rfl) ?_
  refine pb_iload_n C dX3_isDistance_1 rfl (lv_at hl 1 rfl) ?_
  refine pb_go_x (bc' := 0) (bs' := 0) (pb_runS (rest := [.ref (o)]) C hG (met_X3_isSheet l s (by omega)) (lw_S q1794 q1795 q60 q1796) hdX3_isSheet rfl hl.1 rfl (Nat.le_of_ble_eq_true rfl) ⟨(Nat.le_of_ble_eq_true rfl), (Nat.le_of_ble_eq_true rfl)⟩ dX3_isDistance_2) (by omega) (by omega) ?_
  refine pb_ifB_eq C dX3_isDistance_5 (tgt := 15) (by decide) (fun c5_ => ?_) (fun c5_ => ?_)
  · have c5_ := of_decide_eq_false c5_
    refine pb_ic C dX3_isDistance_15 ?_
    refine pb_goto C dX3_isDistance_16 (tgt := 34) (by decide) ?_
    refine pb_put C in_X3 tyX3 tyX3_ok nmX3 hO (ci := 2) rfl 0 (by decide) q1737 (fun _ h9 => h9) rfl (v := .int (iZ (1))) rfl rfl (Nat.le_of_ble_eq_true rfl) (by omega) dX3_isDistance_34 fun H1_ hu_ hO => ?_
    have hO : pb_O w H1_ (o) 2 [.int (iZ (1)), .int (iZ ((S.1 1))), .ref (o + 1), .ref (o + 2), .ref (o + 3), .ref (o + 4), .ref (o + 5), .ref (o + 6), .ref (o + 7), .ref (o + 8), .ref (o + 9), .ref (o + 10), .ref (o + 11), .ref (o + 12), .int (iZ ((S.1 2))), .int (iZ ((S.1 3)))] := hO
    have hG := hG.kept (hu_.z (by omega))
    have hA1 := hA1.kept (hu_.2 _ (by omega))
    have hA2 := hA2.kept (hu_.2 _ (by omega))
    have hA3 := hA3.kept (hu_.2 _ (by omega))
    have hA4 := hA4.kept (hu_.2 _ (by omega))
    have hA5 := hA5.kept (hu_.2 _ (by omega))
    have hA6 := hA6.kept (hu_.2 _ (by omega))
    have hA7 := hA7.kept (hu_.2 _ (by omega))
    have hA8 := hA8.kept (hu_.2 _ (by omega))
    have hA9 := hA9.kept (hu_.2 _ (by omega))
    have hA10 := hA10.kept (hu_.2 _ (by omega))
    have hA11 := hA11.kept (hu_.2 _ (by omega))
    have hA12 := hA12.kept (hu_.2 _ (by omega))
    have hF := hF.up hu_ (by omega)
    refine pb_aload_n C dX3_isDistance_37 rfl (lv_at hl 0 rfl) ?_
    refine pb_get C in_X3 hO.r (ci := 2) rfl 0 (by decide) q1737 (fun _ h9 => h9) (v := .int (iZ (1))) rfl dX3_isDistance_38 ?_
    refine pb_if_ne C dX3_isDistance_41 (x := 1) (tgt := 48) (by decide) (by omega) (fun c41_ => ?_) (fun c41_ => ?_)
    · refine pb_ic C dX3_isDistance_48 ?_
      exact pb_zret C dX3_isDistance_49 (by decide +kernel) (⟨_, rfl, rfl, ⟨hz, hO, hA1, hA2, hA3, hA4, hA5, hA6, hA7, hA8, hA9, hA10, hA11, hA12⟩, hF⟩)
    · exact absurd c41_ (by decide)
  · have c5_ := of_decide_eq_true c5_
    refine pb_iload_n C dX3_isDistance_8 rfl (lv_at hl 3 rfl) ?_
    refine pb_go_x (bc' := 0) (bs' := 0) (pb_runS (rest := [.ref (o)]) C hG (met_X3_isSheet l t (by omega)) (lw_S q1794 q1795 q60 q1796) hdX3_isSheet rfl hl.1 rfl (Nat.le_of_ble_eq_true rfl) ⟨(Nat.le_of_ble_eq_true rfl), (Nat.le_of_ble_eq_true rfl)⟩ dX3_isDistance_9) (by omega) (by omega) ?_
    refine pb_ifB_ne C dX3_isDistance_12 (tgt := 19) (by decide) (fun c12_ => ?_) (fun c12_ => ?_)
    · have c12_ := of_decide_eq_true c12_
      omega
    · have c12_ := of_decide_eq_false c12_
      refine pb_ic C dX3_isDistance_15 ?_
      refine pb_goto C dX3_isDistance_16 (tgt := 34) (by decide) ?_
      refine pb_put C in_X3 tyX3 tyX3_ok nmX3 hO (ci := 2) rfl 0 (by decide) q1737 (fun _ h9 => h9) rfl (v := .int (iZ (1))) rfl rfl (Nat.le_of_ble_eq_true rfl) (by omega) dX3_isDistance_34 fun H2_ hu_ hO => ?_
      have hO : pb_O w H2_ (o) 2 [.int (iZ (1)), .int (iZ ((S.1 1))), .ref (o + 1), .ref (o + 2), .ref (o + 3), .ref (o + 4), .ref (o + 5), .ref (o + 6), .ref (o + 7), .ref (o + 8), .ref (o + 9), .ref (o + 10), .ref (o + 11), .ref (o + 12), .int (iZ ((S.1 2))), .int (iZ ((S.1 3)))] := hO
      have hG := hG.kept (hu_.z (by omega))
      have hA1 := hA1.kept (hu_.2 _ (by omega))
      have hA2 := hA2.kept (hu_.2 _ (by omega))
      have hA3 := hA3.kept (hu_.2 _ (by omega))
      have hA4 := hA4.kept (hu_.2 _ (by omega))
      have hA5 := hA5.kept (hu_.2 _ (by omega))
      have hA6 := hA6.kept (hu_.2 _ (by omega))
      have hA7 := hA7.kept (hu_.2 _ (by omega))
      have hA8 := hA8.kept (hu_.2 _ (by omega))
      have hA9 := hA9.kept (hu_.2 _ (by omega))
      have hA10 := hA10.kept (hu_.2 _ (by omega))
      have hA11 := hA11.kept (hu_.2 _ (by omega))
      have hA12 := hA12.kept (hu_.2 _ (by omega))
      have hF := hF.up hu_ (by omega)
      refine pb_aload_n C dX3_isDistance_37 rfl (lv_at hl 0 rfl) ?_
      refine pb_get C in_X3 hO.r (ci := 2) rfl 0 (by decide) q1737 (fun _ h9 => h9) (v := .int (iZ (1))) rfl dX3_isDistance_38 ?_
      refine pb_if_ne C dX3_isDistance_41 (x := 1) (tgt := 48) (by decide) (by omega) (fun c41_ => ?_) (fun c41_ => ?_)
      · refine pb_ic C dX3_isDistance_48 ?_
        exact pb_zret C dX3_isDistance_49 (by decide +kernel) (⟨_, rfl, rfl, ⟨hz, hO, hA1, hA2, hA3, hA4, hA5, hA6, hA7, hA8, hA9, hA10, hA11, hA12⟩, hF⟩)
      · exact absurd c41_ (by decide)

set_option maxHeartbeats 1000000 in
theorem met_X3_isDistance_2 {w : pb_W} (l : Launch) {H0 : Heap} (o : Nat) (S : mS) (hM : MW w H0 o S) (s t : Int) (hsr : -2147483648 ≤ s ∧ s ≤ 2147483647) (htr : -2147483648 ≤ t ∧ t ≤ 2147483647) (d : Int) (hd : -2147483648 ≤ d ∧ d ≤ 2147483647) (hn : (0 ≤ s ∧ s ≤ 7) ∧ 0 ≤ t ∧ t ≤ 7) (hq : ¬ (0 ≤ d ∧ d ≤ 8)) : pb_M w l yX3_isDistance cX3_isDistance 4 (some .boolean) 2 (0) (0) [.ref (o), .int (iZ (s)), .int (iZ (d)), .int (iZ (t))] H0 (pb_qi (fun z H1 => z = 0 ∧ MW w H1 o (mI S 0 2) ∧ mF o H0 H1)) := by
  refine pb_of (by decide +kernel) (Nat.le_of_ble_eq_true rfl) ?_
  intro p_ e_ s_ m_ ar_ bl_ me_ co_ ls C hh hG hl
  have hl : lv_has ls 4 [(0, .ref (o)), (1, .int (iZ (s))), (2, .int (iZ (d))), (3, .int (iZ (t)))] := hl
  have hM0 := hM; obtain ⟨hz, hO, hA1, hA2, hA3, hA4, hA5, hA6, hA7, hA8, hA9, hA10, hA11, hA12⟩ := hM0
  have hF : mF o H0 H0 := mF.rf
  refine pb_aload_n C dX3_isDistance_0 rfl (lv_at hl 0 rfl) ?_
  refine pb_iload_n C dX3_isDistance_1 rfl (lv_at hl 1 rfl) ?_
  refine pb_go_x (bc' := 0) (bs' := 0) (pb_runS (rest := [.ref (o)]) C hG (met_X3_isSheet l s (by omega)) (lw_S q1794 q1795 q60 q1796) hdX3_isSheet rfl hl.1 rfl (Nat.le_of_ble_eq_true rfl) ⟨(Nat.le_of_ble_eq_true rfl), (Nat.le_of_ble_eq_true rfl)⟩ dX3_isDistance_2) (by omega) (by omega) ?_
  refine pb_ifB_eq C dX3_isDistance_5 (tgt := 15) (by decide) (fun c5_ => ?_) (fun c5_ => ?_)
  · have c5_ := of_decide_eq_false c5_
    omega
  · have c5_ := of_decide_eq_true c5_
    refine pb_iload_n C dX3_isDistance_8 rfl (lv_at hl 3 rfl) ?_
    refine pb_go_x (bc' := 0) (bs' := 0) (pb_runS (rest := [.ref (o)]) C hG (met_X3_isSheet l t (by omega)) (lw_S q1794 q1795 q60 q1796) hdX3_isSheet rfl hl.1 rfl (Nat.le_of_ble_eq_true rfl) ⟨(Nat.le_of_ble_eq_true rfl), (Nat.le_of_ble_eq_true rfl)⟩ dX3_isDistance_9) (by omega) (by omega) ?_
    refine pb_ifB_ne C dX3_isDistance_12 (tgt := 19) (by decide) (fun c12_ => ?_) (fun c12_ => ?_)
    · have c12_ := of_decide_eq_true c12_
      refine pb_iload_n C dX3_isDistance_19 rfl (lv_at hl 2 rfl) ?_
      refine pb_ic C dX3_isDistance_20 ?_
      refine pb_bip C dX3_isDistance_21 (by decide) ?_
      refine pb_go_x (bc' := 0) (bs' := 0) (pb_runS (rest := [.ref (o)]) C hG (met_X3_isIn l d 0 8 (by omega) (by omega) (by omega)) (lw_S q1797 q1798 q60 q1799) hdX3_isIn rfl hl.1 rfl (Nat.le_of_ble_eq_true rfl) ⟨(Nat.le_of_ble_eq_true rfl), (Nat.le_of_ble_eq_true rfl)⟩ dX3_isDistance_23) (by omega) (by omega) ?_
      refine pb_ifB_ne C dX3_isDistance_26 (tgt := 33) (by decide) (fun c26_ => ?_) (fun c26_ => ?_)
      · have c26_ := of_decide_eq_true c26_
        omega
      · have c26_ := of_decide_eq_false c26_
        refine pb_ic C dX3_isDistance_29 ?_
        refine pb_goto C dX3_isDistance_30 (tgt := 34) (by decide) ?_
        refine pb_put C in_X3 tyX3 tyX3_ok nmX3 hO (ci := 2) rfl 0 (by decide) q1737 (fun _ h9 => h9) rfl (v := .int (iZ (2))) rfl rfl (Nat.le_of_ble_eq_true rfl) (by omega) dX3_isDistance_34 fun H1_ hu_ hO => ?_
        have hO : pb_O w H1_ (o) 2 [.int (iZ (2)), .int (iZ ((S.1 1))), .ref (o + 1), .ref (o + 2), .ref (o + 3), .ref (o + 4), .ref (o + 5), .ref (o + 6), .ref (o + 7), .ref (o + 8), .ref (o + 9), .ref (o + 10), .ref (o + 11), .ref (o + 12), .int (iZ ((S.1 2))), .int (iZ ((S.1 3)))] := hO
        have hG := hG.kept (hu_.z (by omega))
        have hA1 := hA1.kept (hu_.2 _ (by omega))
        have hA2 := hA2.kept (hu_.2 _ (by omega))
        have hA3 := hA3.kept (hu_.2 _ (by omega))
        have hA4 := hA4.kept (hu_.2 _ (by omega))
        have hA5 := hA5.kept (hu_.2 _ (by omega))
        have hA6 := hA6.kept (hu_.2 _ (by omega))
        have hA7 := hA7.kept (hu_.2 _ (by omega))
        have hA8 := hA8.kept (hu_.2 _ (by omega))
        have hA9 := hA9.kept (hu_.2 _ (by omega))
        have hA10 := hA10.kept (hu_.2 _ (by omega))
        have hA11 := hA11.kept (hu_.2 _ (by omega))
        have hA12 := hA12.kept (hu_.2 _ (by omega))
        have hF := hF.up hu_ (by omega)
        refine pb_aload_n C dX3_isDistance_37 rfl (lv_at hl 0 rfl) ?_
        refine pb_get C in_X3 hO.r (ci := 2) rfl 0 (by decide) q1737 (fun _ h9 => h9) (v := .int (iZ (2))) rfl dX3_isDistance_38 ?_
        refine pb_if_ne C dX3_isDistance_41 (x := 2) (tgt := 48) (by decide) (by omega) (fun c41_ => ?_) (fun c41_ => ?_)
        · refine pb_ic C dX3_isDistance_48 ?_
          exact pb_zret C dX3_isDistance_49 (by decide +kernel) (⟨_, rfl, rfl, ⟨hz, hO, hA1, hA2, hA3, hA4, hA5, hA6, hA7, hA8, hA9, hA10, hA11, hA12⟩, hF⟩)
        · exact absurd c41_ (by decide)
    · have c12_ := of_decide_eq_false c12_
      omega

set_option maxHeartbeats 1000000 in
theorem met_X3_isAround {w : pb_W} (l : Launch) {H : Heap} (o : Nat) (S : mS) (hM : MW w H o S) (s : Nat) (hs : s < 8) (hb : mok S) (x y d : Int) (hx : 0 ≤ x ∧ x ≤ 23) (hy : 0 ≤ y ∧ y ≤ 23) (hd : 0 ≤ d ∧ d ≤ 8) (all : Bool) : pb_M w l yX3_isAround cX3_isAround 8 (some .boolean) 4 (0) (0) [.ref (o), .int (iZ (((s : Nat) : Int))), .int (iZ (x)), .int (iZ (y)), .int (iZ (d)), .int (iZ ((bI (all))))] H (pb_qx (.int (iZ (bI (sqv (mg S s) x y d all)))) H) := by
  refine pb_of (by decide +kernel) (Nat.le_of_ble_eq_true rfl) ?_
  intro p_ e_ s_ m_ ar_ bl_ me_ co_ ls C hh hG hl
  have hl : lv_has ls 8 [(0, .ref (o)), (1, .int (iZ (((s : Nat) : Int)))), (2, .int (iZ (x))), (3, .int (iZ (y))), (4, .int (iZ (d))), (5, .int (iZ ((bI (all)))))] := hl
  have hM0 := hM; obtain ⟨hz, hO, hA1, hA2, hA3, hA4, hA5, hA6, hA7, hA8, hA9, hA10, hA11, hA12⟩ := hM0
  have L6 : ∀ (n_ : Nat) (b : Int), (y + d + 1 - b).toNat = n_ → (y - d ≤ b ∧ b ≤ y + d + 1) → (∀ a b1 : Int, x - d ≤ a → a ≤ x + d → y - d ≤ b1 → b1 < b → gc (mg S s) a b1 = all) → ∀ (ls : Array Slot), lv_has ls 8 [(0, .ref (o)), (1, .int (iZ (((s : Nat) : Int)))), (2, .int (iZ (x))), (3, .int (iZ (y))), (4, .int (iZ (d))), (5, .int (iZ ((bI (all))))), (6, .int (iZ (b)))] → pb_V w.2.2.2 p_ l e_ (pb_rm 4 (0) (0)) s_ m_ ar_ bl_ me_ co_ H (0) (0) (pb_E w bl_ ar_ s_ (0) (0) (pb_qx (.int (iZ (bI (sqv (mg S s) x y d all)))) H)) (F0 m_ 6 ls []) := by
    intro n_
    induction n_ using Nat.strongRecOn with
    | _ n_ ih6 =>
    intro b hm_ h1 hA ls hl
    have L21 : ∀ (n_ : Nat) (a : Int), (x + d + 1 - a).toNat = n_ → (b ≤ y + d) → (x - d ≤ a ∧ a ≤ x + d + 1) → (∀ a1 : Int, x - d ≤ a1 → a1 < a → gc (mg S s) a1 b = all) → ∀ (ls : Array Slot), lv_has ls 8 [(0, .ref (o)), (1, .int (iZ (((s : Nat) : Int)))), (2, .int (iZ (x))), (3, .int (iZ (y))), (4, .int (iZ (d))), (5, .int (iZ ((bI (all))))), (6, .int (iZ (b))), (7, .int (iZ (a)))] → pb_V w.2.2.2 p_ l e_ (pb_rm 4 (0) (0)) s_ m_ ar_ bl_ me_ co_ H (0) (0) (pb_E w bl_ ar_ s_ (0) (0) (pb_qx (.int (iZ (bI (sqv (mg S s) x y d all)))) H)) (F0 m_ 21 ls []) := by
      intro n_
      induction n_ using Nat.strongRecOn with
      | _ n_ ih21 =>
      intro a hm_ hbb h2 hB ls hl
      refine pb_iload C dX3_isAround_21 (lv_at hl 7 rfl) ?_
      refine pb_iload_n C dX3_isAround_23 rfl (lv_at hl 2 rfl) ?_
      refine pb_iload C dX3_isAround_24 (lv_at hl 4 rfl) ?_
      refine pb_iadd C dX3_isAround_26 ?_
      refine pb_icmp_gt C dX3_isAround_27 (x := a) (y := (x + d)) (tgt := 61) (by decide) (by omega) (by omega) (fun c27_ => ?_) (fun c27_ => ?_)
      · refine pb_iinc C dX3_isAround_61 hl (j := 6) (x := b) rfl (by decide) rfl fun ls hl => ?_
        have hl : lv_has ls 8 [(6, .int (iZ ((b + 1)))), (0, .ref (o)), (1, .int (iZ (((s : Nat) : Int)))), (2, .int (iZ (x))), (3, .int (iZ (y))), (4, .int (iZ (d))), (5, .int (iZ ((bI (all))))), (7, .int (iZ (a)))] := hl
        refine pb_goto C dX3_isAround_64 (tgt := 6) (by decide) ?_
        exact pb_V.mono (by omega) (by omega) (ih6 _ (by omega) (b + 1) rfl (by omega) (fun a b1 g1 g2 g3 g4 => by rcases Int.lt_or_le b1 b with q9 | q9; exact hA a b1 g1 g2 g3 q9; (obtain rfl : b1 = b := by omega); exact hB a g1 (by omega)) ls (lv_sub hl [1, 2, 3, 4, 5, 6, 0] rfl))
      · refine pb_aload_n C dX3_isAround_30 rfl (lv_at hl 0 rfl) ?_
        refine pb_iload_n C dX3_isAround_31 rfl (lv_at hl 1 rfl) ?_
        refine pb_iload C dX3_isAround_32 (lv_at hl 7 rfl) ?_
        refine pb_iload C dX3_isAround_34 (lv_at hl 6 rfl) ?_
        refine pb_go_x (bc' := 0) (bs' := 0) (pb_runV (rest := []) C hG (met_X3_has l o S hM s (by omega) hb a b (by omega) (by omega)) hO.r (ci := 2) rfl (lw_V q1875 q1877 qs35 q60 q1878) ⟨rfl, hdX3_has⟩ rfl hl.1 rfl (Nat.le_of_ble_eq_true rfl) ⟨(Nat.le_of_ble_eq_true rfl), (Nat.le_of_ble_eq_true rfl)⟩ dX3_isAround_36) (by omega) (by omega) ?_
        refine pb_iload C dX3_isAround_39 (lv_at hl 5 rfl) ?_
        refine pb_icmp_eq C dX3_isAround_41 (x := (bI (gc (mg S s) a b))) (y := (bI (all))) (tgt := 55) (by decide) (by have := bI_r (gc (mg S s) a b); omega) (by have := bI_r all; omega) (fun c41_ => ?_) (fun c41_ => ?_)
        · refine pb_iinc C dX3_isAround_55 hl (j := 7) (x := a) rfl (by decide) rfl fun ls hl => ?_
          have hl : lv_has ls 8 [(7, .int (iZ ((a + 1)))), (0, .ref (o)), (1, .int (iZ (((s : Nat) : Int)))), (2, .int (iZ (x))), (3, .int (iZ (y))), (4, .int (iZ (d))), (5, .int (iZ ((bI (all))))), (6, .int (iZ (b)))] := hl
          refine pb_goto C dX3_isAround_58 (tgt := 21) (by decide) ?_
          exact pb_V.mono (by omega) (by omega) (ih21 _ (by omega) (a + 1) rfl (by omega) (by omega) (fun a1 g1 g2 => by rcases Int.lt_or_le a1 a with q9 | q9; exact hB a1 g1 q9; (obtain rfl : a1 = a := by omega); exact bI_inj c41_) ls (lv_sub hl [1, 2, 3, 4, 5, 6, 7, 0] rfl))
        · have hne_ : ¬ sq (mg S s) x y d all := fun z => c41_ (congrArg bI (z a b (by omega) (by omega) (by omega) (by omega)))
          refine pb_iload C dX3_isAround_44 (lv_at hl 5 rfl) ?_
          refine pb_ifB_ne C dX3_isAround_46 (tgt := 53) (by decide) (fun c46_ => ?_) (fun c46_ => ?_)
          · refine pb_ic C dX3_isAround_53 ?_
            exact pb_zret C dX3_isAround_54 (by decide +kernel) (⟨by rw [sqv_f hne_, c46_]; rfl, rfl⟩)
          · refine pb_ic C dX3_isAround_49 ?_
            refine pb_goto C dX3_isAround_50 (tgt := 54) (by decide) ?_
            exact pb_zret C dX3_isAround_54 (by decide +kernel) (⟨by rw [sqv_f hne_, c46_]; rfl, rfl⟩)
    refine pb_iload C dX3_isAround_6 (lv_at hl 6 rfl) ?_
    refine pb_iload_n C dX3_isAround_8 rfl (lv_at hl 3 rfl) ?_
    refine pb_iload C dX3_isAround_9 (lv_at hl 4 rfl) ?_
    refine pb_iadd C dX3_isAround_11 ?_
    refine pb_icmp_gt C dX3_isAround_12 (x := b) (y := (y + d)) (tgt := 67) (by decide) (by omega) (by omega) (fun c12_ => ?_) (fun c12_ => ?_)
    · refine pb_iload C dX3_isAround_67 (lv_at hl 5 rfl) ?_
      exact pb_zret C dX3_isAround_69 (pb_nar (all)) (⟨by rw [sqv_t (fun a b1 g1 g2 g3 g4 => hA a b1 g1 g2 g3 (by omega))], rfl⟩)
    · refine pb_iload_n C dX3_isAround_15 rfl (lv_at hl 2 rfl) ?_
      refine pb_iload C dX3_isAround_16 (lv_at hl 4 rfl) ?_
      refine pb_isub C dX3_isAround_18 ?_
      refine pb_istore C dX3_isAround_19 hl (by decide) rfl fun ls hl => ?_
      have hl : lv_has ls 8 [(7, .int (iZ ((x - d)))), (0, .ref (o)), (1, .int (iZ (((s : Nat) : Int)))), (2, .int (iZ (x))), (3, .int (iZ (y))), (4, .int (iZ (d))), (5, .int (iZ ((bI (all))))), (6, .int (iZ (b)))] := hl
      exact pb_V.mono (by omega) (by omega) (L21 _ (x - d) rfl (by omega) (by omega) (fun a1 _ h4 => absurd h4 (by omega)) ls (lv_sub hl [1, 2, 3, 4, 5, 6, 7, 0] rfl))
  refine pb_iload_n C dX3_isAround_0 rfl (lv_at hl 3 rfl) ?_
  refine pb_iload C dX3_isAround_1 (lv_at hl 4 rfl) ?_
  refine pb_isub C dX3_isAround_3 ?_
  refine pb_istore C dX3_isAround_4 hl (by decide) rfl fun ls hl => ?_
  have hl : lv_has ls 8 [(6, .int (iZ ((y - d)))), (0, .ref (o)), (1, .int (iZ (((s : Nat) : Int)))), (2, .int (iZ (x))), (3, .int (iZ (y))), (4, .int (iZ (d))), (5, .int (iZ ((bI (all)))))] := hl
  exact pb_V.mono (by omega) (by omega) (L6 _ (y - d) rfl (by omega) (fun a b1 _ _ h3 h4 => absurd h3 (by omega)) ls (lv_sub hl [1, 2, 3, 4, 5, 6, 0] rfl))

set_option maxHeartbeats 1000000 in
theorem met_X3_changes {w : pb_W} (l : Launch) {H0 : Heap} (o : Nat) (S : mS) (hM : MW w H0 o S) (s t : Nat) (hs : s < 8) (ht : t < 8) (hb : mok S) (d : Int) (hd : 0 ≤ d ∧ d ≤ 8) (all : Bool) : pb_M w l yX3_changes cX3_changes 7 (some .int) 6 (0) (0) [.ref (o), .int (iZ (((s : Nat) : Int))), .int (iZ (d)), .int (iZ (((t : Nat) : Int))), .int (iZ ((bI (all))))] H0 (pb_qi (fun z H1 => z = ((cnt (mg (mB (mB S 1 (mdF (fun y x => sqv (mg S s) ((x : Nat) : Int) ((y : Nat) : Int) d all) (S.2.1 1) 24)) 0 (rowsF (mB S 1 (mdF (fun y x => sqv (mg S s) ((x : Nat) : Int) ((y : Nat) : Int) d all) (S.2.1 1) 24)) t 0 24 (mdF (fun y x => sqv (mg S s) ((x : Nat) : Int) ((y : Nat) : Int) d all) (S.2.1 1) 24))) t) : Nat) : Int) ∧ MW w H1 o (mB (mB S 1 (mdF (fun y x => sqv (mg S s) ((x : Nat) : Int) ((y : Nat) : Int) d all) (S.2.1 1) 24)) 0 (rowsF (mB S 1 (mdF (fun y x => sqv (mg S s) ((x : Nat) : Int) ((y : Nat) : Int) d all) (S.2.1 1) 24)) t 0 24 (mdF (fun y x => sqv (mg S s) ((x : Nat) : Int) ((y : Nat) : Int) d all) (S.2.1 1) 24))) ∧ mF o H0 H1)) := by
  refine pb_of (by decide +kernel) (Nat.le_of_ble_eq_true rfl) ?_
  intro p_ e_ s_ m_ ar_ bl_ me_ co_ ls C hh hG hl
  have hl : lv_has ls 7 [(0, .ref (o)), (1, .int (iZ (((s : Nat) : Int)))), (2, .int (iZ (d))), (3, .int (iZ (((t : Nat) : Int)))), (4, .int (iZ ((bI (all)))))] := hl
  have hM0 := hM; obtain ⟨hz, hO, hA1, hA2, hA3, hA4, hA5, hA6, hA7, hA8, hA9, hA10, hA11, hA12⟩ := hM0
  have hF : mF o H0 H0 := mF.rf
  have L3 : ∀ (n_ : Nat) (k : Nat) (H : Heap), 24 - k = n_ → (pb_G w s_ H) → (k ≤ 24) → (MW w H o (mB S 1 (mdF (fun y x => sqv (mg S s) ((x : Nat) : Int) ((y : Nat) : Int) d all) (S.2.1 1) k))) → (mF o H0 H) → ∀ (ls : Array Slot), lv_has ls 7 [(0, .ref (o)), (1, .int (iZ (((s : Nat) : Int)))), (2, .int (iZ (d))), (3, .int (iZ (((t : Nat) : Int)))), (4, .int (iZ ((bI (all))))), (5, .int (iZ (((k : Nat) : Int))))] → pb_V w.2.2.2 p_ l e_ (pb_rm 6 (0) (0)) s_ m_ ar_ bl_ me_ co_ H (0) (0) (pb_E w bl_ ar_ s_ (0) (0) (pb_qi (fun z H1 => z = ((cnt (mg (mB (mB S 1 (mdF (fun y x => sqv (mg S s) ((x : Nat) : Int) ((y : Nat) : Int) d all) (S.2.1 1) 24)) 0 (rowsF (mB S 1 (mdF (fun y x => sqv (mg S s) ((x : Nat) : Int) ((y : Nat) : Int) d all) (S.2.1 1) 24)) t 0 24 (mdF (fun y x => sqv (mg S s) ((x : Nat) : Int) ((y : Nat) : Int) d all) (S.2.1 1) 24))) t) : Nat) : Int) ∧ MW w H1 o (mB (mB S 1 (mdF (fun y x => sqv (mg S s) ((x : Nat) : Int) ((y : Nat) : Int) d all) (S.2.1 1) 24)) 0 (rowsF (mB S 1 (mdF (fun y x => sqv (mg S s) ((x : Nat) : Int) ((y : Nat) : Int) d all) (S.2.1 1) 24)) t 0 24 (mdF (fun y x => sqv (mg S s) ((x : Nat) : Int) ((y : Nat) : Int) d all) (S.2.1 1) 24))) ∧ mF o H0 H1))) (F0 m_ 3 ls []) := by
    intro n_
    induction n_ using Nat.strongRecOn with
    | _ n_ ih3 =>
    intro k H hm_ hG hk hM hF ls hl
    have hM0 := hM; obtain ⟨hz, hO, hA1, hA2, hA3, hA4, hA5, hA6, hA7, hA8, hA9, hA10, hA11, hA12⟩ := hM0
    have hO : pb_O w H o 2 [.int (iZ ((S.1 0))), .int (iZ ((S.1 1))), .ref (o + 1), .ref (o + 2), .ref (o + 3), .ref (o + 4), .ref (o + 5), .ref (o + 6), .ref (o + 7), .ref (o + 8), .ref (o + 9), .ref (o + 10), .ref (o + 11), .ref (o + 12), .int (iZ ((S.1 2))), .int (iZ ((S.1 3)))] := hO
    have hA1 : pb_A w H (o + 1) 0 192 (pb_nf (S.2.1 0)) := hA1
    have hA2 : pb_A w H (o + 2) 0 24 (pb_nf (mdF (fun y x => sqv (mg S s) ((x : Nat) : Int) ((y : Nat) : Int) d all) (S.2.1 1) k)) := hA2
    have hA3 : pb_A w H (o + 3) 0 26 (pb_nf (S.2.1 2)) := hA3
    have hA4 : pb_A w H (o + 4) 0 26 (pb_nf (S.2.1 3)) := hA4
    have hA5 : pb_A w H (o + 5) 0 40 (pb_zf (S.2.2 0)) := hA5
    have hA6 : pb_A w H (o + 6) 0 40 (pb_zf (S.2.2 1)) := hA6
    have hA7 : pb_A w H (o + 7) 0 576 (pb_zf (S.2.2 2)) := hA7
    have hA8 : pb_A w H (o + 8) 0 1300 (pb_zf (S.2.2 3)) := hA8
    have hA9 : pb_A w H (o + 9) 0 1300 (pb_zf (S.2.2 4)) := hA9
    have hA10 : pb_A w H (o + 10) 0 400 (pb_zf (S.2.2 5)) := hA10
    have hA11 : pb_A w H (o + 11) 0 400 (pb_zf (S.2.2 6)) := hA11
    have hA12 : pb_A w H (o + 12) 0 625 (pb_nf (S.2.1 4)) := hA12
    have L21 : ∀ (n_ : Nat) (j : Nat) (H : Heap), 24 - j = n_ → (pb_G w s_ H) → (k < 24) → (j ≤ 24) → (MW w H o (mB S 1 (mdI (fun y x => sqv (mg S s) ((x : Nat) : Int) ((y : Nat) : Int) d all) (S.2.1 1) k j))) → (mF o H0 H) → ∀ (ls : Array Slot), lv_has ls 7 [(0, .ref (o)), (1, .int (iZ (((s : Nat) : Int)))), (2, .int (iZ (d))), (3, .int (iZ (((t : Nat) : Int)))), (4, .int (iZ ((bI (all))))), (5, .int (iZ (((k : Nat) : Int)))), (6, .int (iZ (((j : Nat) : Int))))] → pb_V w.2.2.2 p_ l e_ (pb_rm 6 (0) (0)) s_ m_ ar_ bl_ me_ co_ H (0) (0) (pb_E w bl_ ar_ s_ (0) (0) (pb_qi (fun z H1 => z = ((cnt (mg (mB (mB S 1 (mdF (fun y x => sqv (mg S s) ((x : Nat) : Int) ((y : Nat) : Int) d all) (S.2.1 1) 24)) 0 (rowsF (mB S 1 (mdF (fun y x => sqv (mg S s) ((x : Nat) : Int) ((y : Nat) : Int) d all) (S.2.1 1) 24)) t 0 24 (mdF (fun y x => sqv (mg S s) ((x : Nat) : Int) ((y : Nat) : Int) d all) (S.2.1 1) 24))) t) : Nat) : Int) ∧ MW w H1 o (mB (mB S 1 (mdF (fun y x => sqv (mg S s) ((x : Nat) : Int) ((y : Nat) : Int) d all) (S.2.1 1) 24)) 0 (rowsF (mB S 1 (mdF (fun y x => sqv (mg S s) ((x : Nat) : Int) ((y : Nat) : Int) d all) (S.2.1 1) 24)) t 0 24 (mdF (fun y x => sqv (mg S s) ((x : Nat) : Int) ((y : Nat) : Int) d all) (S.2.1 1) 24))) ∧ mF o H0 H1))) (F0 m_ 21 ls []) := by
      intro n_
      induction n_ using Nat.strongRecOn with
      | _ n_ ih21 =>
      intro j H hm_ hG hk2 hj hM hF ls hl
      have hM0 := hM; obtain ⟨hz, hO, hA1, hA2, hA3, hA4, hA5, hA6, hA7, hA8, hA9, hA10, hA11, hA12⟩ := hM0
      have hO : pb_O w H o 2 [.int (iZ ((S.1 0))), .int (iZ ((S.1 1))), .ref (o + 1), .ref (o + 2), .ref (o + 3), .ref (o + 4), .ref (o + 5), .ref (o + 6), .ref (o + 7), .ref (o + 8), .ref (o + 9), .ref (o + 10), .ref (o + 11), .ref (o + 12), .int (iZ ((S.1 2))), .int (iZ ((S.1 3)))] := hO
      have hA1 : pb_A w H (o + 1) 0 192 (pb_nf (S.2.1 0)) := hA1
      have hA2 : pb_A w H (o + 2) 0 24 (pb_nf (mdI (fun y x => sqv (mg S s) ((x : Nat) : Int) ((y : Nat) : Int) d all) (S.2.1 1) k j)) := hA2
      have hA3 : pb_A w H (o + 3) 0 26 (pb_nf (S.2.1 2)) := hA3
      have hA4 : pb_A w H (o + 4) 0 26 (pb_nf (S.2.1 3)) := hA4
      have hA5 : pb_A w H (o + 5) 0 40 (pb_zf (S.2.2 0)) := hA5
      have hA6 : pb_A w H (o + 6) 0 40 (pb_zf (S.2.2 1)) := hA6
      have hA7 : pb_A w H (o + 7) 0 576 (pb_zf (S.2.2 2)) := hA7
      have hA8 : pb_A w H (o + 8) 0 1300 (pb_zf (S.2.2 3)) := hA8
      have hA9 : pb_A w H (o + 9) 0 1300 (pb_zf (S.2.2 4)) := hA9
      have hA10 : pb_A w H (o + 10) 0 400 (pb_zf (S.2.2 5)) := hA10
      have hA11 : pb_A w H (o + 11) 0 400 (pb_zf (S.2.2 6)) := hA11
      have hA12 : pb_A w H (o + 12) 0 625 (pb_nf (S.2.1 4)) := hA12
      refine pb_iload C dX3_changes_21 (lv_at hl 6 rfl) ?_
      refine pb_bip C dX3_changes_23 (by decide) ?_
      refine pb_icmp_ge C dX3_changes_25 (x := ((j : Nat) : Int)) (y := 24) (tgt := 63) (by decide) (by omega) (by omega) (fun c25_ => ?_) (fun c25_ => ?_)
      · obtain rfl : j = 24 := by omega
        refine pb_iinc C dX3_changes_63 hl (j := 5) (x := (((k : Nat) : Int))) rfl (by decide) rfl fun ls hl => ?_
        have hl : lv_has ls 7 [(5, .int (iZ ((((k + 1) : Nat) : Int)))), (0, .ref (o)), (1, .int (iZ (((s : Nat) : Int)))), (2, .int (iZ (d))), (3, .int (iZ (((t : Nat) : Int)))), (4, .int (iZ ((bI (all))))), (6, .int (iZ (((24 : Nat) : Int))))] := hl
        refine pb_goto C dX3_changes_66 (tgt := 3) (by decide) ?_
        exact pb_V.mono (by omega) (by omega) (ih3 _ (by omega) (k + 1) H rfl hG (by omega) (by rw [← mdI_24]; exact hM) hF ls (lv_sub hl [1, 2, 3, 4, 5, 0] rfl))
      · refine pb_aload_n C dX3_changes_28 rfl (lv_at hl 0 rfl) ?_
        refine pb_iload_n C dX3_changes_29 rfl (lv_at hl 1 rfl) ?_
        refine pb_iload C dX3_changes_30 (lv_at hl 6 rfl) ?_
        refine pb_iload C dX3_changes_32 (lv_at hl 5 rfl) ?_
        refine pb_iload_n C dX3_changes_34 rfl (lv_at hl 2 rfl) ?_
        refine pb_iload C dX3_changes_35 (lv_at hl 4 rfl) ?_
        refine pb_go_x (bc' := 0) (bs' := 0) (pb_runV (rest := []) C hG (met_X3_isAround l o (mB S 1 (mdI (fun y x => sqv (mg S s) ((x : Nat) : Int) ((y : Nat) : Int) d all) (S.2.1 1) k j)) hM s hs hb ((j : Nat) : Int) ((k : Nat) : Int) d (by omega) (by omega) hd all) hO.r (ci := 2) rfl (lw_V q1871 q1873 qs34 q60 q1874) ⟨rfl, hdX3_isAround⟩ rfl hl.1 rfl (Nat.le_of_ble_eq_true rfl) ⟨(Nat.le_of_ble_eq_true rfl), (Nat.le_of_ble_eq_true rfl)⟩ dX3_changes_37) (by omega) (by omega) ?_
        refine pb_ifB_eq C dX3_changes_40 (tgt := 57) (by decide) (fun c40_ => ?_) (fun c40_ => ?_)
        · have hφ : (fun y x => sqv (mg S s) ((x : Nat) : Int) ((y : Nat) : Int) d all) k j = false := c40_
          refine pb_iinc C dX3_changes_57 hl (j := 6) (x := (((j : Nat) : Int))) rfl (by decide) rfl fun ls hl => ?_
          have hl : lv_has ls 7 [(6, .int (iZ ((((j + 1) : Nat) : Int)))), (0, .ref (o)), (1, .int (iZ (((s : Nat) : Int)))), (2, .int (iZ (d))), (3, .int (iZ (((t : Nat) : Int)))), (4, .int (iZ ((bI (all))))), (5, .int (iZ (((k : Nat) : Int))))] := hl
          refine pb_goto C dX3_changes_60 (tgt := 21) (by decide) ?_
          exact pb_V.mono (by omega) (by omega) (ih21 _ (by omega) (j + 1) H rfl hG (by omega) (by omega) (by rw [← mdI_f (fun y x => sqv (mg S s) ((x : Nat) : Int) ((y : Nat) : Int) d all) (S.2.1 1) k j hφ]; exact hM) hF ls (lv_sub hl [1, 2, 3, 4, 5, 6, 0] rfl))
        · have hφ : (fun y x => sqv (mg S s) ((x : Nat) : Int) ((y : Nat) : Int) d all) k j = true := c40_
          refine pb_aload_n C dX3_changes_43 rfl (lv_at hl 0 rfl) ?_
          refine pb_get C in_X3 hO.r (ci := 2) rfl 3 (by decide) q1740 (fun _ h9 => h9) (v := .ref (o + 2)) rfl dX3_changes_44 ?_
          refine pb_iload C dX3_changes_47 (lv_at hl 5 rfl) ?_
          refine pb_dup2 C dX3_changes_49 rfl rfl ?_
          refine pb_iald C hA2.b (i := ((k : Nat) : Int)) (v := .int (iZ ((((msk ((fun y x => sqv (mg S s) ((x : Nat) : Int) ((y : Nat) : Int) d all) k) j) : Nat) : Int)))) (by omega) (congrArg (fun n : Nat => Value.int (iZ (n : Int))) (mdI_at (fun y x => sqv (mg S s) ((x : Nat) : Int) ((y : Nat) : Int) d all) (S.2.1 1) k j)) dX3_changes_50 ?_
          refine pb_ic C dX3_changes_51 ?_
          refine pb_iload C dX3_changes_52 (lv_at hl 6 rfl) ?_
          refine pb_ishl C dX3_changes_54 (x := 1) (y := j) (by omega) ?_
          refine pb_ior C dX3_changes_55 (x := (msk ((fun y x => sqv (mg S s) ((x : Nat) : Int) ((y : Nat) : Int) d all) k) j)) (y := (1 <<< j)) ?_
          refine pb_iast C hA2 (i := ((k : Nat) : Int)) (by omega) (by omega) dX3_changes_56 fun H1_ hu_ hA2 => ?_
          rw [pb_upN, Int.toNat_natCast, mdI_t (fun y x => sqv (mg S s) ((x : Nat) : Int) ((y : Nat) : Int) d all) (S.2.1 1) k j hφ rfl] at hA2
          have hG := hG.kept (hu_.z (by omega))
          have hO := hO.kept (hu_.2 _ (by omega))
          have hA1 := hA1.kept (hu_.2 _ (by omega))
          have hA3 := hA3.kept (hu_.2 _ (by omega))
          have hA4 := hA4.kept (hu_.2 _ (by omega))
          have hA5 := hA5.kept (hu_.2 _ (by omega))
          have hA6 := hA6.kept (hu_.2 _ (by omega))
          have hA7 := hA7.kept (hu_.2 _ (by omega))
          have hA8 := hA8.kept (hu_.2 _ (by omega))
          have hA9 := hA9.kept (hu_.2 _ (by omega))
          have hA10 := hA10.kept (hu_.2 _ (by omega))
          have hA11 := hA11.kept (hu_.2 _ (by omega))
          have hA12 := hA12.kept (hu_.2 _ (by omega))
          have hF := hF.up hu_ (by omega)
          refine pb_iinc C dX3_changes_57 hl (j := 6) (x := (((j : Nat) : Int))) rfl (by decide) rfl fun ls hl => ?_
          have hl : lv_has ls 7 [(6, .int (iZ ((((j + 1) : Nat) : Int)))), (0, .ref (o)), (1, .int (iZ (((s : Nat) : Int)))), (2, .int (iZ (d))), (3, .int (iZ (((t : Nat) : Int)))), (4, .int (iZ ((bI (all))))), (5, .int (iZ (((k : Nat) : Int))))] := hl
          refine pb_goto C dX3_changes_60 (tgt := 21) (by decide) ?_
          exact pb_V.mono (by omega) (by omega) (ih21 _ (by omega) (j + 1) H1_ rfl hG (by omega) (by omega) ⟨hz, hO, hA1, hA2, hA3, hA4, hA5, hA6, hA7, hA8, hA9, hA10, hA11, hA12⟩ hF ls (lv_sub hl [1, 2, 3, 4, 5, 6, 0] rfl))
    refine pb_iload C dX3_changes_3 (lv_at hl 5 rfl) ?_
    refine pb_bip C dX3_changes_5 (by decide) ?_
    refine pb_icmp_ge C dX3_changes_7 (x := ((k : Nat) : Int)) (y := 24) (tgt := 69) (by decide) (by omega) (by omega) (fun c7_ => ?_) (fun c7_ => ?_)
    · obtain rfl : k = 24 := by omega
      refine pb_aload_n C dX3_changes_69 rfl (lv_at hl 0 rfl) ?_
      refine pb_iload_n C dX3_changes_70 rfl (lv_at hl 3 rfl) ?_
      refine pb_go_i (bc' := 0) (bs' := 0) (pb_runV (rest := []) C hG (met_X3_puts l o (mB S 1 (mdF (fun y x => sqv (mg S s) ((x : Nat) : Int) ((y : Nat) : Int) d all) (S.2.1 1) 24)) hM t ht hb (fun y hy => by rw [show (mB S 1 (mdF (fun y x => sqv (mg S s) ((x : Nat) : Int) ((y : Nat) : Int) d all) (S.2.1 1) 24)).2.1 1 y = (mdF (fun y x => sqv (mg S s) ((x : Nat) : Int) ((y : Nat) : Int) d all) (S.2.1 1) 24) y from rfl, mdF, if_pos hy]; exact msk_lt24 _)) hO.r (ci := 2) rfl (lw_V q1851 q1853 qs31 q60 q1854) ⟨rfl, hdX3_puts⟩ rfl hl.1 rfl (Nat.le_of_ble_eq_true rfl) ⟨(Nat.le_of_ble_eq_true rfl), (Nat.le_of_ble_eq_true rfl)⟩ dX3_changes_71) (by omega) (by omega) (fun z_ H_ hp_ => ?_)
      obtain ⟨hz_, hM, hF2⟩ := hp_
      have hF := hF.tr hF2
      exact pb_iret C dX3_changes_74 (⟨_, rfl, hz_, hM, hF⟩)
    · refine pb_aload_n C dX3_changes_10 rfl (lv_at hl 0 rfl) ?_
      refine pb_get C in_X3 hO.r (ci := 2) rfl 3 (by decide) q1740 (fun _ h9 => h9) (v := .ref (o + 2)) rfl dX3_changes_11 ?_
      refine pb_iload C dX3_changes_14 (lv_at hl 5 rfl) ?_
      refine pb_ic C dX3_changes_16 ?_
      refine pb_iast C hA2 (i := ((k : Nat) : Int)) (by omega) (by omega) dX3_changes_17 fun H2_ hu_ hA2 => ?_
      rw [show (Value.int (iZ 0)) = Value.int (iZ ((0 : Nat) : Int)) from rfl, pb_upN, Int.toNat_natCast, mdI_0] at hA2
      have hG := hG.kept (hu_.z (by omega))
      have hO := hO.kept (hu_.2 _ (by omega))
      have hA1 := hA1.kept (hu_.2 _ (by omega))
      have hA3 := hA3.kept (hu_.2 _ (by omega))
      have hA4 := hA4.kept (hu_.2 _ (by omega))
      have hA5 := hA5.kept (hu_.2 _ (by omega))
      have hA6 := hA6.kept (hu_.2 _ (by omega))
      have hA7 := hA7.kept (hu_.2 _ (by omega))
      have hA8 := hA8.kept (hu_.2 _ (by omega))
      have hA9 := hA9.kept (hu_.2 _ (by omega))
      have hA10 := hA10.kept (hu_.2 _ (by omega))
      have hA11 := hA11.kept (hu_.2 _ (by omega))
      have hA12 := hA12.kept (hu_.2 _ (by omega))
      have hF := hF.up hu_ (by omega)
      refine pb_ic C dX3_changes_18 ?_
      refine pb_istore C dX3_changes_19 hl (by decide) rfl fun ls hl => ?_
      have hl : lv_has ls 7 [(6, .int (iZ (0))), (0, .ref (o)), (1, .int (iZ (((s : Nat) : Int)))), (2, .int (iZ (d))), (3, .int (iZ (((t : Nat) : Int)))), (4, .int (iZ ((bI (all))))), (5, .int (iZ (((k : Nat) : Int))))] := hl
      exact pb_V.mono (by omega) (by omega) (L21 _ 0 H2_ rfl hG (by omega) (by omega) ⟨hz, hO, hA1, hA2, hA3, hA4, hA5, hA6, hA7, hA8, hA9, hA10, hA11, hA12⟩ hF ls (lv_sub hl [1, 2, 3, 4, 5, 6, 0] rfl))
  refine pb_ic C dX3_changes_0 ?_
  refine pb_istore C dX3_changes_1 hl (by decide) rfl fun ls hl => ?_
  have hl : lv_has ls 7 [(5, .int (iZ (0))), (0, .ref (o)), (1, .int (iZ (((s : Nat) : Int)))), (2, .int (iZ (d))), (3, .int (iZ (((t : Nat) : Int)))), (4, .int (iZ ((bI (all)))))] := hl
  exact pb_V.mono (by omega) (by omega) (L3 _ 0 H0 rfl hG (by omega) (by rw [mdF_0]; exact ⟨hz, hO, hA1, hA2, hA3, hA4, hA5, hA6, hA7, hA8, hA9, hA10, hA11, hA12⟩) hF ls (lv_sub hl [1, 2, 3, 4, 5, 0] rfl))

set_option maxHeartbeats 1000000 in
theorem met_X3_grow {w : pb_W} (l : Launch) {H0 : Heap} (o : Nat) (S : mS) (hM : MW w H0 o S) (s t : Nat) (hs : s < 8) (ht : t < 8) (hb : mok S) (d : Int) (hd : 0 ≤ d ∧ d ≤ 8) : pb_M w l yX3_grow cX3_grow 4 (some .int) 7 (0) (0) [.ref (o), .int (iZ (((s : Nat) : Int))), .int (iZ (d)), .int (iZ (((t : Nat) : Int)))] H0 (pb_qi (fun z H1 => z = ((cnt (mg (mB (mB (mI S 0 0) 1 (mdF (fun y x => sqv (mg S s) ((x : Nat) : Int) ((y : Nat) : Int) d false) ((mI S 0 0).2.1 1) 24)) 0 (rowsF (mB (mI S 0 0) 1 (mdF (fun y x => sqv (mg S s) ((x : Nat) : Int) ((y : Nat) : Int) d false) ((mI S 0 0).2.1 1) 24)) t 0 24 (mdF (fun y x => sqv (mg S s) ((x : Nat) : Int) ((y : Nat) : Int) d false) ((mI S 0 0).2.1 1) 24))) t) : Nat) : Int) ∧ MW w H1 o (mB (mB (mI S 0 0) 1 (mdF (fun y x => sqv (mg S s) ((x : Nat) : Int) ((y : Nat) : Int) d false) ((mI S 0 0).2.1 1) 24)) 0 (rowsF (mB (mI S 0 0) 1 (mdF (fun y x => sqv (mg S s) ((x : Nat) : Int) ((y : Nat) : Int) d false) ((mI S 0 0).2.1 1) 24)) t 0 24 (mdF (fun y x => sqv (mg S s) ((x : Nat) : Int) ((y : Nat) : Int) d false) ((mI S 0 0).2.1 1) 24))) ∧ mF o H0 H1)) := by
  refine pb_of (by decide +kernel) (Nat.le_of_ble_eq_true rfl) ?_
  intro p_ e_ s_ m_ ar_ bl_ me_ co_ ls C hh hG hl
  have hl : lv_has ls 4 [(0, .ref (o)), (1, .int (iZ (((s : Nat) : Int)))), (2, .int (iZ (d))), (3, .int (iZ (((t : Nat) : Int))))] := hl
  have hM0 := hM; obtain ⟨hz, hO, hA1, hA2, hA3, hA4, hA5, hA6, hA7, hA8, hA9, hA10, hA11, hA12⟩ := hM0
  have hF : mF o H0 H0 := mF.rf
  refine pb_aload_n C dX3_grow_0 rfl (lv_at hl 0 rfl) ?_
  refine pb_iload_n C dX3_grow_1 rfl (lv_at hl 1 rfl) ?_
  refine pb_iload_n C dX3_grow_2 rfl (lv_at hl 2 rfl) ?_
  refine pb_iload_n C dX3_grow_3 rfl (lv_at hl 3 rfl) ?_
  refine pb_go_i (bc' := 0) (bs' := 0) (pb_runV (rest := []) C hG (met_X3_isDistance l o S hM s t hs ht d hd) hO.r (ci := 2) rfl (lw_V q1863 q1865 qs32 q60 q1866) ⟨rfl, hdX3_isDistance⟩ rfl hl.1 rfl (Nat.le_of_ble_eq_true rfl) ⟨(Nat.le_of_ble_eq_true rfl), (Nat.le_of_ble_eq_true rfl)⟩ dX3_grow_4) (by omega) (by omega) (fun z_ H_ hp_ => ?_)
  obtain ⟨rfl, hM, hF⟩ := hp_
  have hG := hG.kept (hF.z hz)
  have hO := hM.2.1
  refine pb_if_eq C dX3_grow_7 (x := 1) (tgt := 21) (by decide) (by omega) (fun c7_ => ?_) (fun c7_ => ?_)
  · exact absurd c7_ (by decide)
  · refine pb_aload_n C dX3_grow_10 rfl (lv_at hl 0 rfl) ?_
    refine pb_iload_n C dX3_grow_11 rfl (lv_at hl 1 rfl) ?_
    refine pb_iload_n C dX3_grow_12 rfl (lv_at hl 2 rfl) ?_
    refine pb_iload_n C dX3_grow_13 rfl (lv_at hl 3 rfl) ?_
    refine pb_ic C dX3_grow_14 ?_
    refine pb_go_i (bc' := 0) (bs' := 0) (pb_runV (rest := []) C hG (met_X3_changes l o (mI S 0 0) hM s t hs ht hb d hd false) hO.r (ci := 2) rfl (lw_V q1867 q1869 qs33 q60 q1870) ⟨rfl, hdX3_changes⟩ rfl hl.1 rfl (Nat.le_of_ble_eq_true rfl) ⟨(Nat.le_of_ble_eq_true rfl), (Nat.le_of_ble_eq_true rfl)⟩ dX3_grow_15) (by omega) (by omega) (fun z_ H_ hp_ => ?_)
    obtain ⟨hz_, hM, hF2⟩ := hp_
    have hF := hF.tr hF2
    refine pb_goto C dX3_grow_18 (tgt := 22) (by decide) ?_
    exact pb_iret C dX3_grow_22 (⟨_, rfl, hz_, hM, hF⟩)

set_option maxHeartbeats 1000000 in
theorem met_X3_grow_1 {w : pb_W} (l : Launch) {H0 : Heap} (o : Nat) (S : mS) (hM : MW w H0 o S) (s t : Int) (hsr : -2147483648 ≤ s ∧ s ≤ 2147483647) (htr : -2147483648 ≤ t ∧ t ≤ 2147483647) (d : Int) (hd : -2147483648 ≤ d ∧ d ≤ 2147483647) (hn : ¬ ((0 ≤ s ∧ s ≤ 7) ∧ 0 ≤ t ∧ t ≤ 7)) : pb_M w l yX3_grow cX3_grow 4 (some .int) 7 (0) (0) [.ref (o), .int (iZ (s)), .int (iZ (d)), .int (iZ (t))] H0 (pb_qi (fun z H1 => z = 0 ∧ MW w H1 o (mI S 0 1) ∧ mF o H0 H1)) := by
  refine pb_of (by decide +kernel) (Nat.le_of_ble_eq_true rfl) ?_
  intro p_ e_ s_ m_ ar_ bl_ me_ co_ ls C hh hG hl
  have hl : lv_has ls 4 [(0, .ref (o)), (1, .int (iZ (s))), (2, .int (iZ (d))), (3, .int (iZ (t)))] := hl
  have hM0 := hM; obtain ⟨hz, hO, hA1, hA2, hA3, hA4, hA5, hA6, hA7, hA8, hA9, hA10, hA11, hA12⟩ := hM0
  have hF : mF o H0 H0 := mF.rf
  refine pb_aload_n C dX3_grow_0 rfl (lv_at hl 0 rfl) ?_
  refine pb_iload_n C dX3_grow_1 rfl (lv_at hl 1 rfl) ?_
  refine pb_iload_n C dX3_grow_2 rfl (lv_at hl 2 rfl) ?_
  refine pb_iload_n C dX3_grow_3 rfl (lv_at hl 3 rfl) ?_
  refine pb_go_i (bc' := 0) (bs' := 0) (pb_runV (rest := []) C hG (met_X3_isDistance_1 l o S hM s t hsr htr d hd hn) hO.r (ci := 2) rfl (lw_V q1863 q1865 qs32 q60 q1866) ⟨rfl, hdX3_isDistance⟩ rfl hl.1 rfl (Nat.le_of_ble_eq_true rfl) ⟨(Nat.le_of_ble_eq_true rfl), (Nat.le_of_ble_eq_true rfl)⟩ dX3_grow_4) (by omega) (by omega) (fun z_ H_ hp_ => ?_)
  obtain ⟨rfl, hM, hF⟩ := hp_
  refine pb_if_eq C dX3_grow_7 (x := 0) (tgt := 21) (by decide) (by omega) (fun c7_ => ?_) (fun c7_ => ?_)
  · refine pb_ic C dX3_grow_21 ?_
    exact pb_iret C dX3_grow_22 (⟨_, rfl, rfl, hM, hF⟩)
  · exact absurd c7_ (by decide)

set_option maxHeartbeats 1000000 in
theorem met_X3_grow_2 {w : pb_W} (l : Launch) {H0 : Heap} (o : Nat) (S : mS) (hM : MW w H0 o S) (s t : Int) (hsr : -2147483648 ≤ s ∧ s ≤ 2147483647) (htr : -2147483648 ≤ t ∧ t ≤ 2147483647) (d : Int) (hd : -2147483648 ≤ d ∧ d ≤ 2147483647) (hn : (0 ≤ s ∧ s ≤ 7) ∧ 0 ≤ t ∧ t ≤ 7) (hq : ¬ (0 ≤ d ∧ d ≤ 8)) : pb_M w l yX3_grow cX3_grow 4 (some .int) 7 (0) (0) [.ref (o), .int (iZ (s)), .int (iZ (d)), .int (iZ (t))] H0 (pb_qi (fun z H1 => z = 0 ∧ MW w H1 o (mI S 0 2) ∧ mF o H0 H1)) := by
  refine pb_of (by decide +kernel) (Nat.le_of_ble_eq_true rfl) ?_
  intro p_ e_ s_ m_ ar_ bl_ me_ co_ ls C hh hG hl
  have hl : lv_has ls 4 [(0, .ref (o)), (1, .int (iZ (s))), (2, .int (iZ (d))), (3, .int (iZ (t)))] := hl
  have hM0 := hM; obtain ⟨hz, hO, hA1, hA2, hA3, hA4, hA5, hA6, hA7, hA8, hA9, hA10, hA11, hA12⟩ := hM0
  have hF : mF o H0 H0 := mF.rf
  refine pb_aload_n C dX3_grow_0 rfl (lv_at hl 0 rfl) ?_
  refine pb_iload_n C dX3_grow_1 rfl (lv_at hl 1 rfl) ?_
  refine pb_iload_n C dX3_grow_2 rfl (lv_at hl 2 rfl) ?_
  refine pb_iload_n C dX3_grow_3 rfl (lv_at hl 3 rfl) ?_
  refine pb_go_i (bc' := 0) (bs' := 0) (pb_runV (rest := []) C hG (met_X3_isDistance_2 l o S hM s t hsr htr d hd hn hq) hO.r (ci := 2) rfl (lw_V q1863 q1865 qs32 q60 q1866) ⟨rfl, hdX3_isDistance⟩ rfl hl.1 rfl (Nat.le_of_ble_eq_true rfl) ⟨(Nat.le_of_ble_eq_true rfl), (Nat.le_of_ble_eq_true rfl)⟩ dX3_grow_4) (by omega) (by omega) (fun z_ H_ hp_ => ?_)
  obtain ⟨rfl, hM, hF⟩ := hp_
  refine pb_if_eq C dX3_grow_7 (x := 0) (tgt := 21) (by decide) (by omega) (fun c7_ => ?_) (fun c7_ => ?_)
  · refine pb_ic C dX3_grow_21 ?_
    exact pb_iret C dX3_grow_22 (⟨_, rfl, rfl, hM, hF⟩)
  · exact absurd c7_ (by decide)

set_option maxHeartbeats 1000000 in
theorem met_X3_shrink {w : pb_W} (l : Launch) {H0 : Heap} (o : Nat) (S : mS) (hM : MW w H0 o S) (s t : Nat) (hs : s < 8) (ht : t < 8) (hb : mok S) (d : Int) (hd : 0 ≤ d ∧ d ≤ 8) : pb_M w l yX3_shrink cX3_shrink 4 (some .int) 7 (0) (0) [.ref (o), .int (iZ (((s : Nat) : Int))), .int (iZ (d)), .int (iZ (((t : Nat) : Int)))] H0 (pb_qi (fun z H1 => z = ((cnt (mg (mB (mB (mI S 0 0) 1 (mdF (fun y x => sqv (mg S s) ((x : Nat) : Int) ((y : Nat) : Int) d true) ((mI S 0 0).2.1 1) 24)) 0 (rowsF (mB (mI S 0 0) 1 (mdF (fun y x => sqv (mg S s) ((x : Nat) : Int) ((y : Nat) : Int) d true) ((mI S 0 0).2.1 1) 24)) t 0 24 (mdF (fun y x => sqv (mg S s) ((x : Nat) : Int) ((y : Nat) : Int) d true) ((mI S 0 0).2.1 1) 24))) t) : Nat) : Int) ∧ MW w H1 o (mB (mB (mI S 0 0) 1 (mdF (fun y x => sqv (mg S s) ((x : Nat) : Int) ((y : Nat) : Int) d true) ((mI S 0 0).2.1 1) 24)) 0 (rowsF (mB (mI S 0 0) 1 (mdF (fun y x => sqv (mg S s) ((x : Nat) : Int) ((y : Nat) : Int) d true) ((mI S 0 0).2.1 1) 24)) t 0 24 (mdF (fun y x => sqv (mg S s) ((x : Nat) : Int) ((y : Nat) : Int) d true) ((mI S 0 0).2.1 1) 24))) ∧ mF o H0 H1)) := by
  refine pb_of (by decide +kernel) (Nat.le_of_ble_eq_true rfl) ?_
  intro p_ e_ s_ m_ ar_ bl_ me_ co_ ls C hh hG hl
  have hl : lv_has ls 4 [(0, .ref (o)), (1, .int (iZ (((s : Nat) : Int)))), (2, .int (iZ (d))), (3, .int (iZ (((t : Nat) : Int))))] := hl
  have hM0 := hM; obtain ⟨hz, hO, hA1, hA2, hA3, hA4, hA5, hA6, hA7, hA8, hA9, hA10, hA11, hA12⟩ := hM0
  have hF : mF o H0 H0 := mF.rf
  refine pb_aload_n C dX3_shrink_0 rfl (lv_at hl 0 rfl) ?_
  refine pb_iload_n C dX3_shrink_1 rfl (lv_at hl 1 rfl) ?_
  refine pb_iload_n C dX3_shrink_2 rfl (lv_at hl 2 rfl) ?_
  refine pb_iload_n C dX3_shrink_3 rfl (lv_at hl 3 rfl) ?_
  refine pb_go_i (bc' := 0) (bs' := 0) (pb_runV (rest := []) C hG (met_X3_isDistance l o S hM s t hs ht d hd) hO.r (ci := 2) rfl (lw_V q1863 q1865 qs32 q60 q1866) ⟨rfl, hdX3_isDistance⟩ rfl hl.1 rfl (Nat.le_of_ble_eq_true rfl) ⟨(Nat.le_of_ble_eq_true rfl), (Nat.le_of_ble_eq_true rfl)⟩ dX3_shrink_4) (by omega) (by omega) (fun z_ H_ hp_ => ?_)
  obtain ⟨rfl, hM, hF⟩ := hp_
  have hG := hG.kept (hF.z hz)
  have hO := hM.2.1
  refine pb_if_eq C dX3_shrink_7 (x := 1) (tgt := 21) (by decide) (by omega) (fun c7_ => ?_) (fun c7_ => ?_)
  · exact absurd c7_ (by decide)
  · refine pb_aload_n C dX3_shrink_10 rfl (lv_at hl 0 rfl) ?_
    refine pb_iload_n C dX3_shrink_11 rfl (lv_at hl 1 rfl) ?_
    refine pb_iload_n C dX3_shrink_12 rfl (lv_at hl 2 rfl) ?_
    refine pb_iload_n C dX3_shrink_13 rfl (lv_at hl 3 rfl) ?_
    refine pb_ic C dX3_shrink_14 ?_
    refine pb_go_i (bc' := 0) (bs' := 0) (pb_runV (rest := []) C hG (met_X3_changes l o (mI S 0 0) hM s t hs ht hb d hd true) hO.r (ci := 2) rfl (lw_V q1867 q1869 qs33 q60 q1870) ⟨rfl, hdX3_changes⟩ rfl hl.1 rfl (Nat.le_of_ble_eq_true rfl) ⟨(Nat.le_of_ble_eq_true rfl), (Nat.le_of_ble_eq_true rfl)⟩ dX3_shrink_15) (by omega) (by omega) (fun z_ H_ hp_ => ?_)
    obtain ⟨hz_, hM, hF2⟩ := hp_
    have hF := hF.tr hF2
    refine pb_goto C dX3_shrink_18 (tgt := 22) (by decide) ?_
    exact pb_iret C dX3_shrink_22 (⟨_, rfl, hz_, hM, hF⟩)

set_option maxHeartbeats 1000000 in
theorem met_X3_shrink_1 {w : pb_W} (l : Launch) {H0 : Heap} (o : Nat) (S : mS) (hM : MW w H0 o S) (s t : Int) (hsr : -2147483648 ≤ s ∧ s ≤ 2147483647) (htr : -2147483648 ≤ t ∧ t ≤ 2147483647) (d : Int) (hd : -2147483648 ≤ d ∧ d ≤ 2147483647) (hn : ¬ ((0 ≤ s ∧ s ≤ 7) ∧ 0 ≤ t ∧ t ≤ 7)) : pb_M w l yX3_shrink cX3_shrink 4 (some .int) 7 (0) (0) [.ref (o), .int (iZ (s)), .int (iZ (d)), .int (iZ (t))] H0 (pb_qi (fun z H1 => z = 0 ∧ MW w H1 o (mI S 0 1) ∧ mF o H0 H1)) := by
  refine pb_of (by decide +kernel) (Nat.le_of_ble_eq_true rfl) ?_
  intro p_ e_ s_ m_ ar_ bl_ me_ co_ ls C hh hG hl
  have hl : lv_has ls 4 [(0, .ref (o)), (1, .int (iZ (s))), (2, .int (iZ (d))), (3, .int (iZ (t)))] := hl
  have hM0 := hM; obtain ⟨hz, hO, hA1, hA2, hA3, hA4, hA5, hA6, hA7, hA8, hA9, hA10, hA11, hA12⟩ := hM0
  have hF : mF o H0 H0 := mF.rf
  refine pb_aload_n C dX3_shrink_0 rfl (lv_at hl 0 rfl) ?_
  refine pb_iload_n C dX3_shrink_1 rfl (lv_at hl 1 rfl) ?_
  refine pb_iload_n C dX3_shrink_2 rfl (lv_at hl 2 rfl) ?_
  refine pb_iload_n C dX3_shrink_3 rfl (lv_at hl 3 rfl) ?_
  refine pb_go_i (bc' := 0) (bs' := 0) (pb_runV (rest := []) C hG (met_X3_isDistance_1 l o S hM s t hsr htr d hd hn) hO.r (ci := 2) rfl (lw_V q1863 q1865 qs32 q60 q1866) ⟨rfl, hdX3_isDistance⟩ rfl hl.1 rfl (Nat.le_of_ble_eq_true rfl) ⟨(Nat.le_of_ble_eq_true rfl), (Nat.le_of_ble_eq_true rfl)⟩ dX3_shrink_4) (by omega) (by omega) (fun z_ H_ hp_ => ?_)
  obtain ⟨rfl, hM, hF⟩ := hp_
  refine pb_if_eq C dX3_shrink_7 (x := 0) (tgt := 21) (by decide) (by omega) (fun c7_ => ?_) (fun c7_ => ?_)
  · refine pb_ic C dX3_shrink_21 ?_
    exact pb_iret C dX3_shrink_22 (⟨_, rfl, rfl, hM, hF⟩)
  · exact absurd c7_ (by decide)

set_option maxHeartbeats 1000000 in
theorem met_X3_shrink_2 {w : pb_W} (l : Launch) {H0 : Heap} (o : Nat) (S : mS) (hM : MW w H0 o S) (s t : Int) (hsr : -2147483648 ≤ s ∧ s ≤ 2147483647) (htr : -2147483648 ≤ t ∧ t ≤ 2147483647) (d : Int) (hd : -2147483648 ≤ d ∧ d ≤ 2147483647) (hn : (0 ≤ s ∧ s ≤ 7) ∧ 0 ≤ t ∧ t ≤ 7) (hq : ¬ (0 ≤ d ∧ d ≤ 8)) : pb_M w l yX3_shrink cX3_shrink 4 (some .int) 7 (0) (0) [.ref (o), .int (iZ (s)), .int (iZ (d)), .int (iZ (t))] H0 (pb_qi (fun z H1 => z = 0 ∧ MW w H1 o (mI S 0 2) ∧ mF o H0 H1)) := by
  refine pb_of (by decide +kernel) (Nat.le_of_ble_eq_true rfl) ?_
  intro p_ e_ s_ m_ ar_ bl_ me_ co_ ls C hh hG hl
  have hl : lv_has ls 4 [(0, .ref (o)), (1, .int (iZ (s))), (2, .int (iZ (d))), (3, .int (iZ (t)))] := hl
  have hM0 := hM; obtain ⟨hz, hO, hA1, hA2, hA3, hA4, hA5, hA6, hA7, hA8, hA9, hA10, hA11, hA12⟩ := hM0
  have hF : mF o H0 H0 := mF.rf
  refine pb_aload_n C dX3_shrink_0 rfl (lv_at hl 0 rfl) ?_
  refine pb_iload_n C dX3_shrink_1 rfl (lv_at hl 1 rfl) ?_
  refine pb_iload_n C dX3_shrink_2 rfl (lv_at hl 2 rfl) ?_
  refine pb_iload_n C dX3_shrink_3 rfl (lv_at hl 3 rfl) ?_
  refine pb_go_i (bc' := 0) (bs' := 0) (pb_runV (rest := []) C hG (met_X3_isDistance_2 l o S hM s t hsr htr d hd hn hq) hO.r (ci := 2) rfl (lw_V q1863 q1865 qs32 q60 q1866) ⟨rfl, hdX3_isDistance⟩ rfl hl.1 rfl (Nat.le_of_ble_eq_true rfl) ⟨(Nat.le_of_ble_eq_true rfl), (Nat.le_of_ble_eq_true rfl)⟩ dX3_shrink_4) (by omega) (by omega) (fun z_ H_ hp_ => ?_)
  obtain ⟨rfl, hM, hF⟩ := hp_
  refine pb_if_eq C dX3_shrink_7 (x := 0) (tgt := 21) (by decide) (by omega) (fun c7_ => ?_) (fun c7_ => ?_)
  · refine pb_ic C dX3_shrink_21 ?_
    exact pb_iret C dX3_shrink_22 (⟨_, rfl, rfl, hM, hF⟩)
  · exact absurd c7_ (by decide)

set_option maxHeartbeats 1000000 in
theorem met_X3_move {w : pb_W} (l : Launch) {H0 : Heap} (o : Nat) (S : mS) (hM : MW w H0 o S) (s t : Nat) (hs : s < 8) (ht : t < 8) (hb : mok S) (r u : Int) (hr : -24 ≤ r ∧ r ≤ 24) (hu : -24 ≤ u ∧ u ≤ 24) : pb_M w l yX3_move cX3_move 7 (some .int) 6 (0) (0) [.ref (o), .int (iZ (((s : Nat) : Int))), .int (iZ (r)), .int (iZ (u)), .int (iZ (((t : Nat) : Int)))] H0 (pb_qi (fun z H1 => z = ((cnt (mg (mB (mB (mI S 0 0) 1 (mdR (fun i => mvrow (mg S s) r u i) (S.2.1 1) 24)) 0 (rowsF (mB (mI S 0 0) 1 (mdR (fun i => mvrow (mg S s) r u i) (S.2.1 1) 24)) t 0 24 (mdR (fun i => mvrow (mg S s) r u i) (S.2.1 1) 24))) t) : Nat) : Int) ∧ MW w H1 o (mB (mB (mI S 0 0) 1 (mdR (fun i => mvrow (mg S s) r u i) (S.2.1 1) 24)) 0 (rowsF (mB (mI S 0 0) 1 (mdR (fun i => mvrow (mg S s) r u i) (S.2.1 1) 24)) t 0 24 (mdR (fun i => mvrow (mg S s) r u i) (S.2.1 1) 24))) ∧ mF o H0 H1)) := by
  refine pb_of (by decide +kernel) (Nat.le_of_ble_eq_true rfl) ?_
  intro p_ e_ s_ m_ ar_ bl_ me_ co_ ls C hh hG hl
  have hl : lv_has ls 7 [(0, .ref (o)), (1, .int (iZ (((s : Nat) : Int)))), (2, .int (iZ (r))), (3, .int (iZ (u))), (4, .int (iZ (((t : Nat) : Int))))] := hl
  have hM0 := hM; obtain ⟨hz, hO, hA1, hA2, hA3, hA4, hA5, hA6, hA7, hA8, hA9, hA10, hA11, hA12⟩ := hM0
  have hF : mF o H0 H0 := mF.rf
  have L62 : ∀ (n_ : Nat) (k : Nat) (H : Heap), 24 - k = n_ → (pb_G w s_ H) → (k ≤ 24) → (MW w H o (mB (mI S 0 0) 1 (mdR (fun i => mvrow (mg S s) r u i) (S.2.1 1) k))) → (mF o H0 H) → ∀ (ls : Array Slot), lv_has ls 7 [(0, .ref (o)), (1, .int (iZ (((s : Nat) : Int)))), (2, .int (iZ (r))), (3, .int (iZ (u))), (4, .int (iZ (((t : Nat) : Int)))), (5, .int (iZ (((k : Nat) : Int))))] → pb_V w.2.2.2 p_ l e_ (pb_rm 6 (0) (0)) s_ m_ ar_ bl_ me_ co_ H (0) (0) (pb_E w bl_ ar_ s_ (0) (0) (pb_qi (fun z H1 => z = ((cnt (mg (mB (mB (mI S 0 0) 1 (mdR (fun i => mvrow (mg S s) r u i) (S.2.1 1) 24)) 0 (rowsF (mB (mI S 0 0) 1 (mdR (fun i => mvrow (mg S s) r u i) (S.2.1 1) 24)) t 0 24 (mdR (fun i => mvrow (mg S s) r u i) (S.2.1 1) 24))) t) : Nat) : Int) ∧ MW w H1 o (mB (mB (mI S 0 0) 1 (mdR (fun i => mvrow (mg S s) r u i) (S.2.1 1) 24)) 0 (rowsF (mB (mI S 0 0) 1 (mdR (fun i => mvrow (mg S s) r u i) (S.2.1 1) 24)) t 0 24 (mdR (fun i => mvrow (mg S s) r u i) (S.2.1 1) 24))) ∧ mF o H0 H1))) (F0 m_ 62 ls []) := by
    intro n_
    induction n_ using Nat.strongRecOn with
    | _ n_ ih62 =>
    intro k H hm_ hG hk hM hF ls hl
    have hM0 := hM; obtain ⟨hz, hO, hA1, hA2, hA3, hA4, hA5, hA6, hA7, hA8, hA9, hA10, hA11, hA12⟩ := hM0
    have hO : pb_O w H o 2 [.int (iZ ((0))), .int (iZ ((S.1 1))), .ref (o + 1), .ref (o + 2), .ref (o + 3), .ref (o + 4), .ref (o + 5), .ref (o + 6), .ref (o + 7), .ref (o + 8), .ref (o + 9), .ref (o + 10), .ref (o + 11), .ref (o + 12), .int (iZ ((S.1 2))), .int (iZ ((S.1 3)))] := hO
    have hA1 : pb_A w H (o + 1) 0 192 (pb_nf (S.2.1 0)) := hA1
    have hA2 : pb_A w H (o + 2) 0 24 (pb_nf (mdR (fun i => mvrow (mg S s) r u i) (S.2.1 1) k)) := hA2
    have hA3 : pb_A w H (o + 3) 0 26 (pb_nf (S.2.1 2)) := hA3
    have hA4 : pb_A w H (o + 4) 0 26 (pb_nf (S.2.1 3)) := hA4
    have hA5 : pb_A w H (o + 5) 0 40 (pb_zf (S.2.2 0)) := hA5
    have hA6 : pb_A w H (o + 6) 0 40 (pb_zf (S.2.2 1)) := hA6
    have hA7 : pb_A w H (o + 7) 0 576 (pb_zf (S.2.2 2)) := hA7
    have hA8 : pb_A w H (o + 8) 0 1300 (pb_zf (S.2.2 3)) := hA8
    have hA9 : pb_A w H (o + 9) 0 1300 (pb_zf (S.2.2 4)) := hA9
    have hA10 : pb_A w H (o + 10) 0 400 (pb_zf (S.2.2 5)) := hA10
    have hA11 : pb_A w H (o + 11) 0 400 (pb_zf (S.2.2 6)) := hA11
    have hA12 : pb_A w H (o + 12) 0 625 (pb_nf (S.2.1 4)) := hA12
    refine pb_iload C dX3_move_62 (lv_at hl 5 rfl) ?_
    refine pb_bip C dX3_move_64 (by decide) ?_
    refine pb_icmp_ge C dX3_move_66 (x := ((k : Nat) : Int)) (y := 24) (tgt := 115) (by decide) (by omega) (by omega) (fun c66_ => ?_) (fun c66_ => ?_)
    · obtain rfl : k = 24 := by omega
      refine pb_aload_n C dX3_move_115 rfl (lv_at hl 0 rfl) ?_
      refine pb_iload C dX3_move_116 (lv_at hl 4 rfl) ?_
      refine pb_go_i (bc' := 0) (bs' := 0) (pb_runV (rest := []) C hG (met_X3_puts l o (mB (mI S 0 0) 1 (mdR (fun i => mvrow (mg S s) r u i) (S.2.1 1) 24)) hM t ht hb (fun y hy => by rw [show (mB (mI S 0 0) 1 (mdR (fun i => mvrow (mg S s) r u i) (S.2.1 1) 24)).2.1 1 y = (mdR (fun i => mvrow (mg S s) r u i) (S.2.1 1) 24) y from rfl, mdR, if_pos hy]; exact mvrow_lt (mg_ok hb hs) r u y)) hO.r (ci := 2) rfl (lw_V q1851 q1853 qs31 q60 q1854) ⟨rfl, hdX3_puts⟩ rfl hl.1 rfl (Nat.le_of_ble_eq_true rfl) ⟨(Nat.le_of_ble_eq_true rfl), (Nat.le_of_ble_eq_true rfl)⟩ dX3_move_118) (by omega) (by omega) (fun z_ H_ hp_ => ?_)
      obtain ⟨hz_, hM, hF2⟩ := hp_
      have hF := hF.tr hF2
      exact pb_iret C dX3_move_121 (⟨_, rfl, hz_, hM, hF⟩)
    · refine pb_aload_n C dX3_move_69 rfl (lv_at hl 0 rfl) ?_
      refine pb_iload_n C dX3_move_70 rfl (lv_at hl 1 rfl) ?_
      refine pb_iload C dX3_move_71 (lv_at hl 5 rfl) ?_
      refine pb_iload_n C dX3_move_73 rfl (lv_at hl 3 rfl) ?_
      refine pb_isub C dX3_move_74 ?_
      refine pb_go_x (bc' := 0) (bs' := 0) (pb_runV (rest := []) C hG (met_X3_row l o (mB (mI S 0 0) 1 (mdR (fun i => mvrow (mg S s) r u i) (S.2.1 1) k)) hM s hs (((k : Nat) : Int) - u) (by omega)) hO.r (ci := 2) rfl (lw_V q1807 q1809 qs28 q60 q1810) ⟨rfl, hdX3_row⟩ rfl hl.1 rfl (Nat.le_of_ble_eq_true rfl) ⟨(Nat.le_of_ble_eq_true rfl), (Nat.le_of_ble_eq_true rfl)⟩ dX3_move_75) (by omega) (by omega) ?_
      refine pb_eq (g2 := F0 m_ 78 ls [.int (iZ ((((gr (mg S s) (((k : Nat) : Int) - u)) : Nat) : Int)))]) (congrArg (fun z9 => F0 m_ 78 ls [.int (iZ z9)]) (show (((gr (mg (mB (mI S 0 0) 1 (mdR (fun i => mvrow (mg S s) r u i) (S.2.1 1) k)) s) (((k : Nat) : Int) - u)) : Nat) : Int) = (((gr (mg S s) (((k : Nat) : Int) - u)) : Nat) : Int) from rfl)) ?_
      refine pb_istore C dX3_move_78 hl (by decide) rfl fun ls hl => ?_
      have hl : lv_has ls 7 [(6, .int (iZ ((((gr (mg S s) (((k : Nat) : Int) - u)) : Nat) : Int)))), (0, .ref (o)), (1, .int (iZ (((s : Nat) : Int)))), (2, .int (iZ (r))), (3, .int (iZ (u))), (4, .int (iZ (((t : Nat) : Int)))), (5, .int (iZ (((k : Nat) : Int))))] := hl
      have hw_ := gr_lt (mg_ok hb hs) (((k : Nat) : Int) - u)
      refine pb_aload_n C dX3_move_80 rfl (lv_at hl 1 rfl) ?_
      refine pb_get C in_X3 hO.r (ci := 2) rfl 3 (by decide) q1740 (fun _ h9 => h9) (v := .ref (o + 2)) rfl dX3_move_81 ?_
      refine pb_iload C dX3_move_84 (lv_at hl 6 rfl) ?_
      refine pb_iload_n C dX3_move_86 rfl (lv_at hl 3 rfl) ?_
      refine pb_if_lt C dX3_move_87 (x := r) (tgt := 103) (by decide) (by omega) (fun c87_ => ?_) (fun c87_ => ?_)
      · refine pb_iload C dX3_move_103 (lv_at hl 0 rfl) ?_
        refine pb_iload_n C dX3_move_105 rfl (lv_at hl 3 rfl) ?_
        refine pb_ineg C dX3_move_106 ?_
        refine pb_eq (g2 := F0 m_ 107 ls [.int (iZ ((((-r).toNat : Nat) : Int))), .int (iZ ((((gr (mg S s) (((k : Nat) : Int) - u)) : Nat) : Int))), .int (iZ (((k : Nat) : Int))), .ref (o + 2)]) (congrArg (fun z9 => F0 m_ 107 ls [.int (iZ z9), .int (iZ ((((gr (mg S s) (((k : Nat) : Int) - u)) : Nat) : Int))), .int (iZ (((k : Nat) : Int))), .ref (o + 2)]) (show (-r) = (((-r).toNat : Nat) : Int) from (by omega))) ?_
        refine pb_ishr C dX3_move_107 (x := (gr (mg S s) (((k : Nat) : Int) - u))) (y := (-r).toNat) (by omega) (by omega) ?_
        refine pb_iast C hA2 (i := ((k : Nat) : Int)) (by omega) (by omega) dX3_move_108 fun H1_ hu_ hA2 => ?_
        rw [pb_upN, Int.toNat_natCast, mdR_step (fun i => mvrow (mg S s) r u i) _ k (v := ((gr (mg S s) (((k : Nat) : Int) - u)) >>> (-r).toNat)) (by unfold mvrow; first | exact if_pos (by omega) | exact if_neg (by omega))] at hA2
        have hG := hG.kept (hu_.z (by omega))
        have hO := hO.kept (hu_.2 _ (by omega))
        have hA1 := hA1.kept (hu_.2 _ (by omega))
        have hA3 := hA3.kept (hu_.2 _ (by omega))
        have hA4 := hA4.kept (hu_.2 _ (by omega))
        have hA5 := hA5.kept (hu_.2 _ (by omega))
        have hA6 := hA6.kept (hu_.2 _ (by omega))
        have hA7 := hA7.kept (hu_.2 _ (by omega))
        have hA8 := hA8.kept (hu_.2 _ (by omega))
        have hA9 := hA9.kept (hu_.2 _ (by omega))
        have hA10 := hA10.kept (hu_.2 _ (by omega))
        have hA11 := hA11.kept (hu_.2 _ (by omega))
        have hA12 := hA12.kept (hu_.2 _ (by omega))
        have hF := hF.up hu_ (by omega)
        refine pb_iinc C dX3_move_109 hl (j := 6) (x := (((k : Nat) : Int))) rfl (by decide) rfl fun ls hl => ?_
        have hl : lv_has ls 7 [(5, .int (iZ ((((k + 1) : Nat) : Int)))), (6, .int (iZ ((((gr (mg S s) (((k : Nat) : Int) - u)) : Nat) : Int)))), (0, .ref (o)), (1, .int (iZ (((s : Nat) : Int)))), (2, .int (iZ (r))), (3, .int (iZ (u))), (4, .int (iZ (((t : Nat) : Int))))] := hl
        refine pb_goto C dX3_move_112 (tgt := 62) (by decide) ?_
        exact pb_V.mono (by omega) (by omega) (ih62 _ (by omega) (k + 1) H1_ rfl hG (by omega) ⟨hz, hO, hA1, hA2, hA3, hA4, hA5, hA6, hA7, hA8, hA9, hA10, hA11, hA12⟩ hF ls (lv_sub hl [2, 3, 4, 5, 6, 0] rfl))
      · refine pb_iload C dX3_move_90 (lv_at hl 0 rfl) ?_
        refine pb_i2l C dX3_move_92 (x := (((gr (mg S s) (((k : Nat) : Int) - u)) : Nat) : Int)) (by omega) ?_
        refine pb_iload_n C dX3_move_93 rfl (lv_at hl 3 rfl) ?_
        refine pb_eq (g2 := F0 m_ 94 ls [.int (iZ (((r.toNat : Nat) : Int))), .long (lZ ((((gr (mg S s) (((k : Nat) : Int) - u)) : Nat) : Int))), .int (iZ (((k : Nat) : Int))), .ref (o + 2)]) (congrArg (fun z9 => F0 m_ 94 ls [.int (iZ z9), .long (lZ ((((gr (mg S s) (((k : Nat) : Int) - u)) : Nat) : Int))), .int (iZ (((k : Nat) : Int))), .ref (o + 2)]) (show r = ((r.toNat : Nat) : Int) from (by omega))) ?_
        refine pb_lshl C (x := (gr (mg S s) (((k : Nat) : Int) - u))) (y := r.toNat) dX3_move_94 (by omega) ?_
        refine pb_ldc2z C dX3_move_95 q1890 16777215 (by decide +kernel) ?_
        refine pb_land C (x := ((gr (mg S s) (((k : Nat) : Int) - u)) <<< r.toNat)) (y := 16777215) dX3_move_98 ?_
        refine pb_l2i C dX3_move_99 ?_
        refine pb_goto C dX3_move_100 (tgt := 108) (by decide) ?_
        refine pb_iast C hA2 (i := ((k : Nat) : Int)) (by omega) (by omega) dX3_move_108 fun H2_ hu_ hA2 => ?_
        rw [pb_upN, Int.toNat_natCast, mdR_step (fun i => mvrow (mg S s) r u i) _ k (v := (((gr (mg S s) (((k : Nat) : Int) - u)) <<< r.toNat) &&& 16777215)) (by unfold mvrow; first | exact if_pos (by omega) | exact if_neg (by omega))] at hA2
        have hG := hG.kept (hu_.z (by omega))
        have hO := hO.kept (hu_.2 _ (by omega))
        have hA1 := hA1.kept (hu_.2 _ (by omega))
        have hA3 := hA3.kept (hu_.2 _ (by omega))
        have hA4 := hA4.kept (hu_.2 _ (by omega))
        have hA5 := hA5.kept (hu_.2 _ (by omega))
        have hA6 := hA6.kept (hu_.2 _ (by omega))
        have hA7 := hA7.kept (hu_.2 _ (by omega))
        have hA8 := hA8.kept (hu_.2 _ (by omega))
        have hA9 := hA9.kept (hu_.2 _ (by omega))
        have hA10 := hA10.kept (hu_.2 _ (by omega))
        have hA11 := hA11.kept (hu_.2 _ (by omega))
        have hA12 := hA12.kept (hu_.2 _ (by omega))
        have hF := hF.up hu_ (by omega)
        refine pb_iinc C dX3_move_109 hl (j := 6) (x := (((k : Nat) : Int))) rfl (by decide) rfl fun ls hl => ?_
        have hl : lv_has ls 7 [(5, .int (iZ ((((k + 1) : Nat) : Int)))), (6, .int (iZ ((((gr (mg S s) (((k : Nat) : Int) - u)) : Nat) : Int)))), (0, .ref (o)), (1, .int (iZ (((s : Nat) : Int)))), (2, .int (iZ (r))), (3, .int (iZ (u))), (4, .int (iZ (((t : Nat) : Int))))] := hl
        refine pb_goto C dX3_move_112 (tgt := 62) (by decide) ?_
        exact pb_V.mono (by omega) (by omega) (ih62 _ (by omega) (k + 1) H2_ rfl hG (by omega) ⟨hz, hO, hA1, hA2, hA3, hA4, hA5, hA6, hA7, hA8, hA9, hA10, hA11, hA12⟩ hF ls (lv_sub hl [2, 3, 4, 5, 6, 0] rfl))
  refine pb_aload_n C dX3_move_0 rfl (lv_at hl 0 rfl) ?_
  refine pb_iload_n C dX3_move_1 rfl (lv_at hl 1 rfl) ?_
  refine pb_go_x (bc' := 0) (bs' := 0) (pb_runS (rest := [.ref (o)]) C hG (met_X3_isSheet l (((s : Nat) : Int)) (by omega)) (lw_S q1794 q1795 q60 q1796) hdX3_isSheet rfl hl.1 rfl (Nat.le_of_ble_eq_true rfl) ⟨(Nat.le_of_ble_eq_true rfl), (Nat.le_of_ble_eq_true rfl)⟩ dX3_move_2) (by omega) (by omega) ?_
  refine pb_ifB_eq C dX3_move_5 (tgt := 16) (by decide) (fun c5_ => ?_) (fun c5_ => ?_)
  · have c5_ := of_decide_eq_false c5_
    omega
  · have c5_ := of_decide_eq_true c5_
    refine pb_iload C dX3_move_8 (lv_at hl 4 rfl) ?_
    refine pb_go_x (bc' := 0) (bs' := 0) (pb_runS (rest := [.ref (o)]) C hG (met_X3_isSheet l (((t : Nat) : Int)) (by omega)) (lw_S q1794 q1795 q60 q1796) hdX3_isSheet rfl hl.1 rfl (Nat.le_of_ble_eq_true rfl) ⟨(Nat.le_of_ble_eq_true rfl), (Nat.le_of_ble_eq_true rfl)⟩ dX3_move_10) (by omega) (by omega) ?_
    refine pb_ifB_ne C dX3_move_13 (tgt := 20) (by decide) (fun c13_ => ?_) (fun c13_ => ?_)
    · have c13_ := of_decide_eq_true c13_
      refine pb_iload_n C dX3_move_20 rfl (lv_at hl 2 rfl) ?_
      refine pb_bip C dX3_move_21 (by decide) ?_
      refine pb_bip C dX3_move_23 (by decide) ?_
      refine pb_go_x (bc' := 0) (bs' := 0) (pb_runS (rest := [.ref (o)]) C hG (met_X3_isIn l r (-24) 24 (by omega) (by omega) (by omega)) (lw_S q1797 q1798 q60 q1799) hdX3_isIn rfl hl.1 rfl (Nat.le_of_ble_eq_true rfl) ⟨(Nat.le_of_ble_eq_true rfl), (Nat.le_of_ble_eq_true rfl)⟩ dX3_move_25) (by omega) (by omega) ?_
      refine pb_ifB_eq C dX3_move_28 (tgt := 42) (by decide) (fun c28_ => ?_) (fun c28_ => ?_)
      · have c28_ := of_decide_eq_false c28_
        omega
      · have c28_ := of_decide_eq_true c28_
        refine pb_iload_n C dX3_move_31 rfl (lv_at hl 3 rfl) ?_
        refine pb_bip C dX3_move_32 (by decide) ?_
        refine pb_bip C dX3_move_34 (by decide) ?_
        refine pb_go_x (bc' := 0) (bs' := 0) (pb_runS (rest := [.ref (o)]) C hG (met_X3_isIn l u (-24) 24 (by omega) (by omega) (by omega)) (lw_S q1797 q1798 q60 q1799) hdX3_isIn rfl hl.1 rfl (Nat.le_of_ble_eq_true rfl) ⟨(Nat.le_of_ble_eq_true rfl), (Nat.le_of_ble_eq_true rfl)⟩ dX3_move_36) (by omega) (by omega) ?_
        refine pb_ifB_ne C dX3_move_39 (tgt := 46) (by decide) (fun c39_ => ?_) (fun c39_ => ?_)
        · have c39_ := of_decide_eq_true c39_
          refine pb_ic C dX3_move_46 ?_
          refine pb_put C in_X3 tyX3 tyX3_ok nmX3 hO (ci := 2) rfl 0 (by decide) q1737 (fun _ h9 => h9) rfl (v := .int (iZ (0))) rfl rfl (Nat.le_of_ble_eq_true rfl) (by omega) dX3_move_47 fun H3_ hu_ hO => ?_
          have hO : pb_O w H3_ (o) 2 [.int (iZ (0)), .int (iZ ((S.1 1))), .ref (o + 1), .ref (o + 2), .ref (o + 3), .ref (o + 4), .ref (o + 5), .ref (o + 6), .ref (o + 7), .ref (o + 8), .ref (o + 9), .ref (o + 10), .ref (o + 11), .ref (o + 12), .int (iZ ((S.1 2))), .int (iZ ((S.1 3)))] := hO
          have hG := hG.kept (hu_.z (by omega))
          have hA1 := hA1.kept (hu_.2 _ (by omega))
          have hA2 := hA2.kept (hu_.2 _ (by omega))
          have hA3 := hA3.kept (hu_.2 _ (by omega))
          have hA4 := hA4.kept (hu_.2 _ (by omega))
          have hA5 := hA5.kept (hu_.2 _ (by omega))
          have hA6 := hA6.kept (hu_.2 _ (by omega))
          have hA7 := hA7.kept (hu_.2 _ (by omega))
          have hA8 := hA8.kept (hu_.2 _ (by omega))
          have hA9 := hA9.kept (hu_.2 _ (by omega))
          have hA10 := hA10.kept (hu_.2 _ (by omega))
          have hA11 := hA11.kept (hu_.2 _ (by omega))
          have hA12 := hA12.kept (hu_.2 _ (by omega))
          have hF := hF.up hu_ (by omega)
          refine pb_aload_n C dX3_move_50 rfl (lv_at hl 0 rfl) ?_
          refine pb_get C in_X3 hO.r (ci := 2) rfl 0 (by decide) q1737 (fun _ h9 => h9) (v := .int (iZ (0))) rfl dX3_move_51 ?_
          refine pb_if_eq C dX3_move_54 (x := 0) (tgt := 59) (by decide) (by omega) (fun c54_ => ?_) (fun c54_ => ?_)
          · refine pb_ic C dX3_move_59 ?_
            refine pb_istore C dX3_move_60 hl (by decide) rfl fun ls hl => ?_
            have hl : lv_has ls 7 [(5, .int (iZ (0))), (0, .ref (o)), (1, .int (iZ (((s : Nat) : Int)))), (2, .int (iZ (r))), (3, .int (iZ (u))), (4, .int (iZ (((t : Nat) : Int))))] := hl
            exact pb_V.mono (by omega) (by omega) (L62 _ 0 H3_ rfl hG (by omega) (by rw [mdR_0]; exact ⟨hz, hO, hA1, hA2, hA3, hA4, hA5, hA6, hA7, hA8, hA9, hA10, hA11, hA12⟩) hF ls (lv_sub hl [1, 2, 3, 4, 5, 0] rfl))
          · exact absurd c54_ (by decide)
        · have c39_ := of_decide_eq_false c39_
          omega
    · have c13_ := of_decide_eq_false c13_
      omega

set_option maxHeartbeats 1000000 in
theorem met_X3_move_1 {w : pb_W} (l : Launch) {H0 : Heap} (o : Nat) (S : mS) (hM : MW w H0 o S) (s t : Int) (hsr : -2147483648 ≤ s ∧ s ≤ 2147483647) (htr : -2147483648 ≤ t ∧ t ≤ 2147483647) (r u : Int) (hr : -2147483648 ≤ r ∧ r ≤ 2147483647) (hu : -2147483648 ≤ u ∧ u ≤ 2147483647) (hn : ¬ ((0 ≤ s ∧ s ≤ 7) ∧ 0 ≤ t ∧ t ≤ 7)) : pb_M w l yX3_move cX3_move 7 (some .int) 6 (0) (0) [.ref (o), .int (iZ (s)), .int (iZ (r)), .int (iZ (u)), .int (iZ (t))] H0 (pb_qi (fun z H1 => z = 0 ∧ MW w H1 o (mI S 0 1) ∧ mF o H0 H1)) := by
  refine pb_of (by decide +kernel) (Nat.le_of_ble_eq_true rfl) ?_
  intro p_ e_ s_ m_ ar_ bl_ me_ co_ ls C hh hG hl
  have hl : lv_has ls 7 [(0, .ref (o)), (1, .int (iZ (s))), (2, .int (iZ (r))), (3, .int (iZ (u))), (4, .int (iZ (t)))] := hl
  have hM0 := hM; obtain ⟨hz, hO, hA1, hA2, hA3, hA4, hA5, hA6, hA7, hA8, hA9, hA10, hA11, hA12⟩ := hM0
  have hF : mF o H0 H0 := mF.rf
  refine pb_aload_n C dX3_move_0 rfl (lv_at hl 0 rfl) ?_
  refine pb_iload_n C dX3_move_1 rfl (lv_at hl 1 rfl) ?_
  refine pb_go_x (bc' := 0) (bs' := 0) (pb_runS (rest := [.ref (o)]) C hG (met_X3_isSheet l s (by omega)) (lw_S q1794 q1795 q60 q1796) hdX3_isSheet rfl hl.1 rfl (Nat.le_of_ble_eq_true rfl) ⟨(Nat.le_of_ble_eq_true rfl), (Nat.le_of_ble_eq_true rfl)⟩ dX3_move_2) (by omega) (by omega) ?_
  refine pb_ifB_eq C dX3_move_5 (tgt := 16) (by decide) (fun c5_ => ?_) (fun c5_ => ?_)
  · have c5_ := of_decide_eq_false c5_
    refine pb_ic C dX3_move_16 ?_
    refine pb_goto C dX3_move_17 (tgt := 47) (by decide) ?_
    refine pb_put C in_X3 tyX3 tyX3_ok nmX3 hO (ci := 2) rfl 0 (by decide) q1737 (fun _ h9 => h9) rfl (v := .int (iZ (1))) rfl rfl (Nat.le_of_ble_eq_true rfl) (by omega) dX3_move_47 fun H1_ hu_ hO => ?_
    have hO : pb_O w H1_ (o) 2 [.int (iZ (1)), .int (iZ ((S.1 1))), .ref (o + 1), .ref (o + 2), .ref (o + 3), .ref (o + 4), .ref (o + 5), .ref (o + 6), .ref (o + 7), .ref (o + 8), .ref (o + 9), .ref (o + 10), .ref (o + 11), .ref (o + 12), .int (iZ ((S.1 2))), .int (iZ ((S.1 3)))] := hO
    have hG := hG.kept (hu_.z (by omega))
    have hA1 := hA1.kept (hu_.2 _ (by omega))
    have hA2 := hA2.kept (hu_.2 _ (by omega))
    have hA3 := hA3.kept (hu_.2 _ (by omega))
    have hA4 := hA4.kept (hu_.2 _ (by omega))
    have hA5 := hA5.kept (hu_.2 _ (by omega))
    have hA6 := hA6.kept (hu_.2 _ (by omega))
    have hA7 := hA7.kept (hu_.2 _ (by omega))
    have hA8 := hA8.kept (hu_.2 _ (by omega))
    have hA9 := hA9.kept (hu_.2 _ (by omega))
    have hA10 := hA10.kept (hu_.2 _ (by omega))
    have hA11 := hA11.kept (hu_.2 _ (by omega))
    have hA12 := hA12.kept (hu_.2 _ (by omega))
    have hF := hF.up hu_ (by omega)
    refine pb_aload_n C dX3_move_50 rfl (lv_at hl 0 rfl) ?_
    refine pb_get C in_X3 hO.r (ci := 2) rfl 0 (by decide) q1737 (fun _ h9 => h9) (v := .int (iZ (1))) rfl dX3_move_51 ?_
    refine pb_if_eq C dX3_move_54 (x := 1) (tgt := 59) (by decide) (by omega) (fun c54_ => ?_) (fun c54_ => ?_)
    · exact absurd c54_ (by decide)
    · refine pb_ic C dX3_move_57 ?_
      exact pb_iret C dX3_move_58 (⟨_, rfl, rfl, ⟨hz, hO, hA1, hA2, hA3, hA4, hA5, hA6, hA7, hA8, hA9, hA10, hA11, hA12⟩, hF⟩)
  · have c5_ := of_decide_eq_true c5_
    refine pb_iload C dX3_move_8 (lv_at hl 4 rfl) ?_
    refine pb_go_x (bc' := 0) (bs' := 0) (pb_runS (rest := [.ref (o)]) C hG (met_X3_isSheet l t (by omega)) (lw_S q1794 q1795 q60 q1796) hdX3_isSheet rfl hl.1 rfl (Nat.le_of_ble_eq_true rfl) ⟨(Nat.le_of_ble_eq_true rfl), (Nat.le_of_ble_eq_true rfl)⟩ dX3_move_10) (by omega) (by omega) ?_
    refine pb_ifB_ne C dX3_move_13 (tgt := 20) (by decide) (fun c13_ => ?_) (fun c13_ => ?_)
    · have c13_ := of_decide_eq_true c13_
      omega
    · have c13_ := of_decide_eq_false c13_
      refine pb_ic C dX3_move_16 ?_
      refine pb_goto C dX3_move_17 (tgt := 47) (by decide) ?_
      refine pb_put C in_X3 tyX3 tyX3_ok nmX3 hO (ci := 2) rfl 0 (by decide) q1737 (fun _ h9 => h9) rfl (v := .int (iZ (1))) rfl rfl (Nat.le_of_ble_eq_true rfl) (by omega) dX3_move_47 fun H2_ hu_ hO => ?_
      have hO : pb_O w H2_ (o) 2 [.int (iZ (1)), .int (iZ ((S.1 1))), .ref (o + 1), .ref (o + 2), .ref (o + 3), .ref (o + 4), .ref (o + 5), .ref (o + 6), .ref (o + 7), .ref (o + 8), .ref (o + 9), .ref (o + 10), .ref (o + 11), .ref (o + 12), .int (iZ ((S.1 2))), .int (iZ ((S.1 3)))] := hO
      have hG := hG.kept (hu_.z (by omega))
      have hA1 := hA1.kept (hu_.2 _ (by omega))
      have hA2 := hA2.kept (hu_.2 _ (by omega))
      have hA3 := hA3.kept (hu_.2 _ (by omega))
      have hA4 := hA4.kept (hu_.2 _ (by omega))
      have hA5 := hA5.kept (hu_.2 _ (by omega))
      have hA6 := hA6.kept (hu_.2 _ (by omega))
      have hA7 := hA7.kept (hu_.2 _ (by omega))
      have hA8 := hA8.kept (hu_.2 _ (by omega))
      have hA9 := hA9.kept (hu_.2 _ (by omega))
      have hA10 := hA10.kept (hu_.2 _ (by omega))
      have hA11 := hA11.kept (hu_.2 _ (by omega))
      have hA12 := hA12.kept (hu_.2 _ (by omega))
      have hF := hF.up hu_ (by omega)
      refine pb_aload_n C dX3_move_50 rfl (lv_at hl 0 rfl) ?_
      refine pb_get C in_X3 hO.r (ci := 2) rfl 0 (by decide) q1737 (fun _ h9 => h9) (v := .int (iZ (1))) rfl dX3_move_51 ?_
      refine pb_if_eq C dX3_move_54 (x := 1) (tgt := 59) (by decide) (by omega) (fun c54_ => ?_) (fun c54_ => ?_)
      · exact absurd c54_ (by decide)
      · refine pb_ic C dX3_move_57 ?_
        exact pb_iret C dX3_move_58 (⟨_, rfl, rfl, ⟨hz, hO, hA1, hA2, hA3, hA4, hA5, hA6, hA7, hA8, hA9, hA10, hA11, hA12⟩, hF⟩)

set_option maxHeartbeats 1000000 in
theorem met_X3_move_2 {w : pb_W} (l : Launch) {H0 : Heap} (o : Nat) (S : mS) (hM : MW w H0 o S) (s t : Int) (hsr : -2147483648 ≤ s ∧ s ≤ 2147483647) (htr : -2147483648 ≤ t ∧ t ≤ 2147483647) (r u : Int) (hr : -2147483648 ≤ r ∧ r ≤ 2147483647) (hu : -2147483648 ≤ u ∧ u ≤ 2147483647) (hn : (0 ≤ s ∧ s ≤ 7) ∧ 0 ≤ t ∧ t ≤ 7) (hq : ¬ ((-24 ≤ r ∧ r ≤ 24) ∧ -24 ≤ u ∧ u ≤ 24)) : pb_M w l yX3_move cX3_move 7 (some .int) 6 (0) (0) [.ref (o), .int (iZ (s)), .int (iZ (r)), .int (iZ (u)), .int (iZ (t))] H0 (pb_qi (fun z H1 => z = 0 ∧ MW w H1 o (mI S 0 2) ∧ mF o H0 H1)) := by
  refine pb_of (by decide +kernel) (Nat.le_of_ble_eq_true rfl) ?_
  intro p_ e_ s_ m_ ar_ bl_ me_ co_ ls C hh hG hl
  have hl : lv_has ls 7 [(0, .ref (o)), (1, .int (iZ (s))), (2, .int (iZ (r))), (3, .int (iZ (u))), (4, .int (iZ (t)))] := hl
  have hM0 := hM; obtain ⟨hz, hO, hA1, hA2, hA3, hA4, hA5, hA6, hA7, hA8, hA9, hA10, hA11, hA12⟩ := hM0
  have hF : mF o H0 H0 := mF.rf
  refine pb_aload_n C dX3_move_0 rfl (lv_at hl 0 rfl) ?_
  refine pb_iload_n C dX3_move_1 rfl (lv_at hl 1 rfl) ?_
  refine pb_go_x (bc' := 0) (bs' := 0) (pb_runS (rest := [.ref (o)]) C hG (met_X3_isSheet l s (by omega)) (lw_S q1794 q1795 q60 q1796) hdX3_isSheet rfl hl.1 rfl (Nat.le_of_ble_eq_true rfl) ⟨(Nat.le_of_ble_eq_true rfl), (Nat.le_of_ble_eq_true rfl)⟩ dX3_move_2) (by omega) (by omega) ?_
  refine pb_ifB_eq C dX3_move_5 (tgt := 16) (by decide) (fun c5_ => ?_) (fun c5_ => ?_)
  · have c5_ := of_decide_eq_false c5_
    omega
  · have c5_ := of_decide_eq_true c5_
    refine pb_iload C dX3_move_8 (lv_at hl 4 rfl) ?_
    refine pb_go_x (bc' := 0) (bs' := 0) (pb_runS (rest := [.ref (o)]) C hG (met_X3_isSheet l t (by omega)) (lw_S q1794 q1795 q60 q1796) hdX3_isSheet rfl hl.1 rfl (Nat.le_of_ble_eq_true rfl) ⟨(Nat.le_of_ble_eq_true rfl), (Nat.le_of_ble_eq_true rfl)⟩ dX3_move_10) (by omega) (by omega) ?_
    refine pb_ifB_ne C dX3_move_13 (tgt := 20) (by decide) (fun c13_ => ?_) (fun c13_ => ?_)
    · have c13_ := of_decide_eq_true c13_
      refine pb_iload_n C dX3_move_20 rfl (lv_at hl 2 rfl) ?_
      refine pb_bip C dX3_move_21 (by decide) ?_
      refine pb_bip C dX3_move_23 (by decide) ?_
      refine pb_go_x (bc' := 0) (bs' := 0) (pb_runS (rest := [.ref (o)]) C hG (met_X3_isIn l r (-24) 24 (by omega) (by omega) (by omega)) (lw_S q1797 q1798 q60 q1799) hdX3_isIn rfl hl.1 rfl (Nat.le_of_ble_eq_true rfl) ⟨(Nat.le_of_ble_eq_true rfl), (Nat.le_of_ble_eq_true rfl)⟩ dX3_move_25) (by omega) (by omega) ?_
      refine pb_ifB_eq C dX3_move_28 (tgt := 42) (by decide) (fun c28_ => ?_) (fun c28_ => ?_)
      · have c28_ := of_decide_eq_false c28_
        refine pb_ic C dX3_move_42 ?_
        refine pb_goto C dX3_move_43 (tgt := 47) (by decide) ?_
        refine pb_put C in_X3 tyX3 tyX3_ok nmX3 hO (ci := 2) rfl 0 (by decide) q1737 (fun _ h9 => h9) rfl (v := .int (iZ (2))) rfl rfl (Nat.le_of_ble_eq_true rfl) (by omega) dX3_move_47 fun H1_ hu_ hO => ?_
        have hO : pb_O w H1_ (o) 2 [.int (iZ (2)), .int (iZ ((S.1 1))), .ref (o + 1), .ref (o + 2), .ref (o + 3), .ref (o + 4), .ref (o + 5), .ref (o + 6), .ref (o + 7), .ref (o + 8), .ref (o + 9), .ref (o + 10), .ref (o + 11), .ref (o + 12), .int (iZ ((S.1 2))), .int (iZ ((S.1 3)))] := hO
        have hG := hG.kept (hu_.z (by omega))
        have hA1 := hA1.kept (hu_.2 _ (by omega))
        have hA2 := hA2.kept (hu_.2 _ (by omega))
        have hA3 := hA3.kept (hu_.2 _ (by omega))
        have hA4 := hA4.kept (hu_.2 _ (by omega))
        have hA5 := hA5.kept (hu_.2 _ (by omega))
        have hA6 := hA6.kept (hu_.2 _ (by omega))
        have hA7 := hA7.kept (hu_.2 _ (by omega))
        have hA8 := hA8.kept (hu_.2 _ (by omega))
        have hA9 := hA9.kept (hu_.2 _ (by omega))
        have hA10 := hA10.kept (hu_.2 _ (by omega))
        have hA11 := hA11.kept (hu_.2 _ (by omega))
        have hA12 := hA12.kept (hu_.2 _ (by omega))
        have hF := hF.up hu_ (by omega)
        refine pb_aload_n C dX3_move_50 rfl (lv_at hl 0 rfl) ?_
        refine pb_get C in_X3 hO.r (ci := 2) rfl 0 (by decide) q1737 (fun _ h9 => h9) (v := .int (iZ (2))) rfl dX3_move_51 ?_
        refine pb_if_eq C dX3_move_54 (x := 2) (tgt := 59) (by decide) (by omega) (fun c54_ => ?_) (fun c54_ => ?_)
        · exact absurd c54_ (by decide)
        · refine pb_ic C dX3_move_57 ?_
          exact pb_iret C dX3_move_58 (⟨_, rfl, rfl, ⟨hz, hO, hA1, hA2, hA3, hA4, hA5, hA6, hA7, hA8, hA9, hA10, hA11, hA12⟩, hF⟩)
      · have c28_ := of_decide_eq_true c28_
        refine pb_iload_n C dX3_move_31 rfl (lv_at hl 3 rfl) ?_
        refine pb_bip C dX3_move_32 (by decide) ?_
        refine pb_bip C dX3_move_34 (by decide) ?_
        refine pb_go_x (bc' := 0) (bs' := 0) (pb_runS (rest := [.ref (o)]) C hG (met_X3_isIn l u (-24) 24 (by omega) (by omega) (by omega)) (lw_S q1797 q1798 q60 q1799) hdX3_isIn rfl hl.1 rfl (Nat.le_of_ble_eq_true rfl) ⟨(Nat.le_of_ble_eq_true rfl), (Nat.le_of_ble_eq_true rfl)⟩ dX3_move_36) (by omega) (by omega) ?_
        refine pb_ifB_ne C dX3_move_39 (tgt := 46) (by decide) (fun c39_ => ?_) (fun c39_ => ?_)
        · have c39_ := of_decide_eq_true c39_
          omega
        · have c39_ := of_decide_eq_false c39_
          refine pb_ic C dX3_move_42 ?_
          refine pb_goto C dX3_move_43 (tgt := 47) (by decide) ?_
          refine pb_put C in_X3 tyX3 tyX3_ok nmX3 hO (ci := 2) rfl 0 (by decide) q1737 (fun _ h9 => h9) rfl (v := .int (iZ (2))) rfl rfl (Nat.le_of_ble_eq_true rfl) (by omega) dX3_move_47 fun H2_ hu_ hO => ?_
          have hO : pb_O w H2_ (o) 2 [.int (iZ (2)), .int (iZ ((S.1 1))), .ref (o + 1), .ref (o + 2), .ref (o + 3), .ref (o + 4), .ref (o + 5), .ref (o + 6), .ref (o + 7), .ref (o + 8), .ref (o + 9), .ref (o + 10), .ref (o + 11), .ref (o + 12), .int (iZ ((S.1 2))), .int (iZ ((S.1 3)))] := hO
          have hG := hG.kept (hu_.z (by omega))
          have hA1 := hA1.kept (hu_.2 _ (by omega))
          have hA2 := hA2.kept (hu_.2 _ (by omega))
          have hA3 := hA3.kept (hu_.2 _ (by omega))
          have hA4 := hA4.kept (hu_.2 _ (by omega))
          have hA5 := hA5.kept (hu_.2 _ (by omega))
          have hA6 := hA6.kept (hu_.2 _ (by omega))
          have hA7 := hA7.kept (hu_.2 _ (by omega))
          have hA8 := hA8.kept (hu_.2 _ (by omega))
          have hA9 := hA9.kept (hu_.2 _ (by omega))
          have hA10 := hA10.kept (hu_.2 _ (by omega))
          have hA11 := hA11.kept (hu_.2 _ (by omega))
          have hA12 := hA12.kept (hu_.2 _ (by omega))
          have hF := hF.up hu_ (by omega)
          refine pb_aload_n C dX3_move_50 rfl (lv_at hl 0 rfl) ?_
          refine pb_get C in_X3 hO.r (ci := 2) rfl 0 (by decide) q1737 (fun _ h9 => h9) (v := .int (iZ (2))) rfl dX3_move_51 ?_
          refine pb_if_eq C dX3_move_54 (x := 2) (tgt := 59) (by decide) (by omega) (fun c54_ => ?_) (fun c54_ => ?_)
          · exact absurd c54_ (by decide)
          · refine pb_ic C dX3_move_57 ?_
            exact pb_iret C dX3_move_58 (⟨_, rfl, rfl, ⟨hz, hO, hA1, hA2, hA3, hA4, hA5, hA6, hA7, hA8, hA9, hA10, hA11, hA12⟩, hF⟩)
    · have c13_ := of_decide_eq_false c13_
      omega

set_option maxHeartbeats 1000000 in
theorem met_X3_turn {w : pb_W} (l : Launch) {H0 : Heap} (o : Nat) (S : mS) (hM : MW w H0 o S) (s t : Nat) (hs : s < 8) (ht : t < 8) (hb : mok S) : pb_M w l yX3_turn cX3_turn 5 (some .int) 6 (0) (0) [.ref (o), .int (iZ (((s : Nat) : Int))), .int (iZ (((t : Nat) : Int)))] H0 (pb_qi (fun z H1 => z = ((cnt (mg (mB (mB (mI S 0 0) 1 (mdF (fun y x => gc (mg S s) ((y : Nat) : Int) (23 - ((x : Nat) : Int))) (S.2.1 1) 24)) 0 (rowsF (mB (mI S 0 0) 1 (mdF (fun y x => gc (mg S s) ((y : Nat) : Int) (23 - ((x : Nat) : Int))) (S.2.1 1) 24)) t 0 24 (mdF (fun y x => gc (mg S s) ((y : Nat) : Int) (23 - ((x : Nat) : Int))) (S.2.1 1) 24))) t) : Nat) : Int) ∧ MW w H1 o (mB (mB (mI S 0 0) 1 (mdF (fun y x => gc (mg S s) ((y : Nat) : Int) (23 - ((x : Nat) : Int))) (S.2.1 1) 24)) 0 (rowsF (mB (mI S 0 0) 1 (mdF (fun y x => gc (mg S s) ((y : Nat) : Int) (23 - ((x : Nat) : Int))) (S.2.1 1) 24)) t 0 24 (mdF (fun y x => gc (mg S s) ((y : Nat) : Int) (23 - ((x : Nat) : Int))) (S.2.1 1) 24))) ∧ mF o H0 H1)) := by
  refine pb_of (by decide +kernel) (Nat.le_of_ble_eq_true rfl) ?_
  intro p_ e_ s_ m_ ar_ bl_ me_ co_ ls C hh hG hl
  have hl : lv_has ls 5 [(0, .ref (o)), (1, .int (iZ (((s : Nat) : Int)))), (2, .int (iZ (((t : Nat) : Int))))] := hl
  have hM0 := hM; obtain ⟨hz, hO, hA1, hA2, hA3, hA4, hA5, hA6, hA7, hA8, hA9, hA10, hA11, hA12⟩ := hM0
  have hF : mF o H0 H0 := mF.rf
  have L34 : ∀ (n_ : Nat) (k : Nat) (H : Heap), 24 - k = n_ → (pb_G w s_ H) → (k ≤ 24) → (MW w H o (mB (mI S 0 0) 1 (mdF (fun y x => gc (mg S s) ((y : Nat) : Int) (23 - ((x : Nat) : Int))) (S.2.1 1) k))) → (mF o H0 H) → ∀ (ls : Array Slot), lv_has ls 5 [(0, .ref (o)), (1, .int (iZ (((s : Nat) : Int)))), (2, .int (iZ (((t : Nat) : Int)))), (3, .int (iZ (((k : Nat) : Int))))] → pb_V w.2.2.2 p_ l e_ (pb_rm 6 (0) (0)) s_ m_ ar_ bl_ me_ co_ H (0) (0) (pb_E w bl_ ar_ s_ (0) (0) (pb_qi (fun z H1 => z = ((cnt (mg (mB (mB (mI S 0 0) 1 (mdF (fun y x => gc (mg S s) ((y : Nat) : Int) (23 - ((x : Nat) : Int))) (S.2.1 1) 24)) 0 (rowsF (mB (mI S 0 0) 1 (mdF (fun y x => gc (mg S s) ((y : Nat) : Int) (23 - ((x : Nat) : Int))) (S.2.1 1) 24)) t 0 24 (mdF (fun y x => gc (mg S s) ((y : Nat) : Int) (23 - ((x : Nat) : Int))) (S.2.1 1) 24))) t) : Nat) : Int) ∧ MW w H1 o (mB (mB (mI S 0 0) 1 (mdF (fun y x => gc (mg S s) ((y : Nat) : Int) (23 - ((x : Nat) : Int))) (S.2.1 1) 24)) 0 (rowsF (mB (mI S 0 0) 1 (mdF (fun y x => gc (mg S s) ((y : Nat) : Int) (23 - ((x : Nat) : Int))) (S.2.1 1) 24)) t 0 24 (mdF (fun y x => gc (mg S s) ((y : Nat) : Int) (23 - ((x : Nat) : Int))) (S.2.1 1) 24))) ∧ mF o H0 H1))) (F0 m_ 34 ls []) := by
    intro n_
    induction n_ using Nat.strongRecOn with
    | _ n_ ih34 =>
    intro k H hm_ hG hk hM hF ls hl
    have hM0 := hM; obtain ⟨hz, hO, hA1, hA2, hA3, hA4, hA5, hA6, hA7, hA8, hA9, hA10, hA11, hA12⟩ := hM0
    have hO : pb_O w H o 2 [.int (iZ ((0))), .int (iZ ((S.1 1))), .ref (o + 1), .ref (o + 2), .ref (o + 3), .ref (o + 4), .ref (o + 5), .ref (o + 6), .ref (o + 7), .ref (o + 8), .ref (o + 9), .ref (o + 10), .ref (o + 11), .ref (o + 12), .int (iZ ((S.1 2))), .int (iZ ((S.1 3)))] := hO
    have hA1 : pb_A w H (o + 1) 0 192 (pb_nf (S.2.1 0)) := hA1
    have hA2 : pb_A w H (o + 2) 0 24 (pb_nf (mdF (fun y x => gc (mg S s) ((y : Nat) : Int) (23 - ((x : Nat) : Int))) (S.2.1 1) k)) := hA2
    have hA3 : pb_A w H (o + 3) 0 26 (pb_nf (S.2.1 2)) := hA3
    have hA4 : pb_A w H (o + 4) 0 26 (pb_nf (S.2.1 3)) := hA4
    have hA5 : pb_A w H (o + 5) 0 40 (pb_zf (S.2.2 0)) := hA5
    have hA6 : pb_A w H (o + 6) 0 40 (pb_zf (S.2.2 1)) := hA6
    have hA7 : pb_A w H (o + 7) 0 576 (pb_zf (S.2.2 2)) := hA7
    have hA8 : pb_A w H (o + 8) 0 1300 (pb_zf (S.2.2 3)) := hA8
    have hA9 : pb_A w H (o + 9) 0 1300 (pb_zf (S.2.2 4)) := hA9
    have hA10 : pb_A w H (o + 10) 0 400 (pb_zf (S.2.2 5)) := hA10
    have hA11 : pb_A w H (o + 11) 0 400 (pb_zf (S.2.2 6)) := hA11
    have hA12 : pb_A w H (o + 12) 0 625 (pb_nf (S.2.1 4)) := hA12
    have L50 : ∀ (n_ : Nat) (j : Nat) (H : Heap), 24 - j = n_ → (pb_G w s_ H) → (k < 24) → (j ≤ 24) → (MW w H o (mB (mI S 0 0) 1 (mdI (fun y x => gc (mg S s) ((y : Nat) : Int) (23 - ((x : Nat) : Int))) (S.2.1 1) k j))) → (mF o H0 H) → ∀ (ls : Array Slot), lv_has ls 5 [(0, .ref (o)), (1, .int (iZ (((s : Nat) : Int)))), (2, .int (iZ (((t : Nat) : Int)))), (3, .int (iZ (((k : Nat) : Int)))), (4, .int (iZ (((j : Nat) : Int))))] → pb_V w.2.2.2 p_ l e_ (pb_rm 6 (0) (0)) s_ m_ ar_ bl_ me_ co_ H (0) (0) (pb_E w bl_ ar_ s_ (0) (0) (pb_qi (fun z H1 => z = ((cnt (mg (mB (mB (mI S 0 0) 1 (mdF (fun y x => gc (mg S s) ((y : Nat) : Int) (23 - ((x : Nat) : Int))) (S.2.1 1) 24)) 0 (rowsF (mB (mI S 0 0) 1 (mdF (fun y x => gc (mg S s) ((y : Nat) : Int) (23 - ((x : Nat) : Int))) (S.2.1 1) 24)) t 0 24 (mdF (fun y x => gc (mg S s) ((y : Nat) : Int) (23 - ((x : Nat) : Int))) (S.2.1 1) 24))) t) : Nat) : Int) ∧ MW w H1 o (mB (mB (mI S 0 0) 1 (mdF (fun y x => gc (mg S s) ((y : Nat) : Int) (23 - ((x : Nat) : Int))) (S.2.1 1) 24)) 0 (rowsF (mB (mI S 0 0) 1 (mdF (fun y x => gc (mg S s) ((y : Nat) : Int) (23 - ((x : Nat) : Int))) (S.2.1 1) 24)) t 0 24 (mdF (fun y x => gc (mg S s) ((y : Nat) : Int) (23 - ((x : Nat) : Int))) (S.2.1 1) 24))) ∧ mF o H0 H1))) (F0 m_ 50 ls []) := by
      intro n_
      induction n_ using Nat.strongRecOn with
      | _ n_ ih50 =>
      intro j H hm_ hG hk2 hj hM hF ls hl
      have hM0 := hM; obtain ⟨hz, hO, hA1, hA2, hA3, hA4, hA5, hA6, hA7, hA8, hA9, hA10, hA11, hA12⟩ := hM0
      have hO : pb_O w H o 2 [.int (iZ ((0))), .int (iZ ((S.1 1))), .ref (o + 1), .ref (o + 2), .ref (o + 3), .ref (o + 4), .ref (o + 5), .ref (o + 6), .ref (o + 7), .ref (o + 8), .ref (o + 9), .ref (o + 10), .ref (o + 11), .ref (o + 12), .int (iZ ((S.1 2))), .int (iZ ((S.1 3)))] := hO
      have hA1 : pb_A w H (o + 1) 0 192 (pb_nf (S.2.1 0)) := hA1
      have hA2 : pb_A w H (o + 2) 0 24 (pb_nf (mdI (fun y x => gc (mg S s) ((y : Nat) : Int) (23 - ((x : Nat) : Int))) (S.2.1 1) k j)) := hA2
      have hA3 : pb_A w H (o + 3) 0 26 (pb_nf (S.2.1 2)) := hA3
      have hA4 : pb_A w H (o + 4) 0 26 (pb_nf (S.2.1 3)) := hA4
      have hA5 : pb_A w H (o + 5) 0 40 (pb_zf (S.2.2 0)) := hA5
      have hA6 : pb_A w H (o + 6) 0 40 (pb_zf (S.2.2 1)) := hA6
      have hA7 : pb_A w H (o + 7) 0 576 (pb_zf (S.2.2 2)) := hA7
      have hA8 : pb_A w H (o + 8) 0 1300 (pb_zf (S.2.2 3)) := hA8
      have hA9 : pb_A w H (o + 9) 0 1300 (pb_zf (S.2.2 4)) := hA9
      have hA10 : pb_A w H (o + 10) 0 400 (pb_zf (S.2.2 5)) := hA10
      have hA11 : pb_A w H (o + 11) 0 400 (pb_zf (S.2.2 6)) := hA11
      have hA12 : pb_A w H (o + 12) 0 625 (pb_nf (S.2.1 4)) := hA12
      refine pb_iload C dX3_turn_50 (lv_at hl 4 rfl) ?_
      refine pb_bip C dX3_turn_52 (by decide) ?_
      refine pb_icmp_ge C dX3_turn_54 (x := ((j : Nat) : Int)) (y := 24) (tgt := 90) (by decide) (by omega) (by omega) (fun c54_ => ?_) (fun c54_ => ?_)
      · obtain rfl : j = 24 := by omega
        refine pb_iinc C dX3_turn_90 hl (j := 3) (x := (((k : Nat) : Int))) rfl (by decide) rfl fun ls hl => ?_
        have hl : lv_has ls 5 [(3, .int (iZ ((((k + 1) : Nat) : Int)))), (0, .ref (o)), (1, .int (iZ (((s : Nat) : Int)))), (2, .int (iZ (((t : Nat) : Int)))), (4, .int (iZ (((24 : Nat) : Int))))] := hl
        refine pb_goto C dX3_turn_93 (tgt := 34) (by decide) ?_
        exact pb_V.mono (by omega) (by omega) (ih34 _ (by omega) (k + 1) H rfl hG (by omega) (by rw [← mdI_24]; exact hM) hF ls (lv_sub hl [1, 2, 3, 0] rfl))
      · refine pb_aload_n C dX3_turn_57 rfl (lv_at hl 0 rfl) ?_
        refine pb_iload_n C dX3_turn_58 rfl (lv_at hl 1 rfl) ?_
        refine pb_iload_n C dX3_turn_59 rfl (lv_at hl 3 rfl) ?_
        refine pb_bip C dX3_turn_60 (by decide) ?_
        refine pb_iload C dX3_turn_62 (lv_at hl 4 rfl) ?_
        refine pb_isub C dX3_turn_64 ?_
        refine pb_go_x (bc' := 0) (bs' := 0) (pb_runV (rest := []) C hG (met_X3_has l o (mB (mI S 0 0) 1 (mdI (fun y x => gc (mg S s) ((y : Nat) : Int) (23 - ((x : Nat) : Int))) (S.2.1 1) k j)) hM s hs hb ((k : Nat) : Int) (23 - ((j : Nat) : Int)) (by omega) (by omega)) hO.r (ci := 2) rfl (lw_V q1875 q1877 qs35 q60 q1878) ⟨rfl, hdX3_has⟩ rfl hl.1 rfl (Nat.le_of_ble_eq_true rfl) ⟨(Nat.le_of_ble_eq_true rfl), (Nat.le_of_ble_eq_true rfl)⟩ dX3_turn_65) (by omega) (by omega) ?_
        refine pb_ifB_eq C dX3_turn_68 (tgt := 84) (by decide) (fun c68_ => ?_) (fun c68_ => ?_)
        · have hφ : (fun y x => gc (mg S s) ((y : Nat) : Int) (23 - ((x : Nat) : Int))) k j = false := c68_
          refine pb_iinc C dX3_turn_84 hl (j := 4) (x := (((j : Nat) : Int))) rfl (by decide) rfl fun ls hl => ?_
          have hl : lv_has ls 5 [(4, .int (iZ ((((j + 1) : Nat) : Int)))), (0, .ref (o)), (1, .int (iZ (((s : Nat) : Int)))), (2, .int (iZ (((t : Nat) : Int)))), (3, .int (iZ (((k : Nat) : Int))))] := hl
          refine pb_goto C dX3_turn_87 (tgt := 50) (by decide) ?_
          exact pb_V.mono (by omega) (by omega) (ih50 _ (by omega) (j + 1) H rfl hG (by omega) (by omega) (by rw [← mdI_f (fun y x => gc (mg S s) ((y : Nat) : Int) (23 - ((x : Nat) : Int))) (S.2.1 1) k j hφ]; exact hM) hF ls (lv_sub hl [1, 2, 3, 4, 0] rfl))
        · have hφ : (fun y x => gc (mg S s) ((y : Nat) : Int) (23 - ((x : Nat) : Int))) k j = true := c68_
          refine pb_aload_n C dX3_turn_71 rfl (lv_at hl 0 rfl) ?_
          refine pb_get C in_X3 hO.r (ci := 2) rfl 3 (by decide) q1740 (fun _ h9 => h9) (v := .ref (o + 2)) rfl dX3_turn_72 ?_
          refine pb_iload_n C dX3_turn_75 rfl (lv_at hl 3 rfl) ?_
          refine pb_dup2 C dX3_turn_76 rfl rfl ?_
          refine pb_iald C hA2.b (i := ((k : Nat) : Int)) (v := .int (iZ ((((msk ((fun y x => gc (mg S s) ((y : Nat) : Int) (23 - ((x : Nat) : Int))) k) j) : Nat) : Int)))) (by omega) (congrArg (fun n : Nat => Value.int (iZ (n : Int))) (mdI_at (fun y x => gc (mg S s) ((y : Nat) : Int) (23 - ((x : Nat) : Int))) (S.2.1 1) k j)) dX3_turn_77 ?_
          refine pb_ic C dX3_turn_78 ?_
          refine pb_iload C dX3_turn_79 (lv_at hl 4 rfl) ?_
          refine pb_ishl C dX3_turn_81 (x := 1) (y := j) (by omega) ?_
          refine pb_ior C dX3_turn_82 (x := (msk ((fun y x => gc (mg S s) ((y : Nat) : Int) (23 - ((x : Nat) : Int))) k) j)) (y := (1 <<< j)) ?_
          refine pb_iast C hA2 (i := ((k : Nat) : Int)) (by omega) (by omega) dX3_turn_83 fun H1_ hu_ hA2 => ?_
          rw [pb_upN, Int.toNat_natCast, mdI_t (fun y x => gc (mg S s) ((y : Nat) : Int) (23 - ((x : Nat) : Int))) (S.2.1 1) k j hφ rfl] at hA2
          have hG := hG.kept (hu_.z (by omega))
          have hO := hO.kept (hu_.2 _ (by omega))
          have hA1 := hA1.kept (hu_.2 _ (by omega))
          have hA3 := hA3.kept (hu_.2 _ (by omega))
          have hA4 := hA4.kept (hu_.2 _ (by omega))
          have hA5 := hA5.kept (hu_.2 _ (by omega))
          have hA6 := hA6.kept (hu_.2 _ (by omega))
          have hA7 := hA7.kept (hu_.2 _ (by omega))
          have hA8 := hA8.kept (hu_.2 _ (by omega))
          have hA9 := hA9.kept (hu_.2 _ (by omega))
          have hA10 := hA10.kept (hu_.2 _ (by omega))
          have hA11 := hA11.kept (hu_.2 _ (by omega))
          have hA12 := hA12.kept (hu_.2 _ (by omega))
          have hF := hF.up hu_ (by omega)
          refine pb_iinc C dX3_turn_84 hl (j := 4) (x := (((j : Nat) : Int))) rfl (by decide) rfl fun ls hl => ?_
          have hl : lv_has ls 5 [(4, .int (iZ ((((j + 1) : Nat) : Int)))), (0, .ref (o)), (1, .int (iZ (((s : Nat) : Int)))), (2, .int (iZ (((t : Nat) : Int)))), (3, .int (iZ (((k : Nat) : Int))))] := hl
          refine pb_goto C dX3_turn_87 (tgt := 50) (by decide) ?_
          exact pb_V.mono (by omega) (by omega) (ih50 _ (by omega) (j + 1) H1_ rfl hG (by omega) (by omega) ⟨hz, hO, hA1, hA2, hA3, hA4, hA5, hA6, hA7, hA8, hA9, hA10, hA11, hA12⟩ hF ls (lv_sub hl [1, 2, 3, 4, 0] rfl))
    refine pb_iload_n C dX3_turn_34 rfl (lv_at hl 3 rfl) ?_
    refine pb_bip C dX3_turn_35 (by decide) ?_
    refine pb_icmp_ge C dX3_turn_37 (x := ((k : Nat) : Int)) (y := 24) (tgt := 96) (by decide) (by omega) (by omega) (fun c37_ => ?_) (fun c37_ => ?_)
    · obtain rfl : k = 24 := by omega
      refine pb_aload_n C dX3_turn_96 rfl (lv_at hl 0 rfl) ?_
      refine pb_iload_n C dX3_turn_97 rfl (lv_at hl 2 rfl) ?_
      refine pb_go_i (bc' := 0) (bs' := 0) (pb_runV (rest := []) C hG (met_X3_puts l o (mB (mI S 0 0) 1 (mdF (fun y x => gc (mg S s) ((y : Nat) : Int) (23 - ((x : Nat) : Int))) (S.2.1 1) 24)) hM t ht hb (fun y hy => by rw [show (mB (mI S 0 0) 1 (mdF (fun y x => gc (mg S s) ((y : Nat) : Int) (23 - ((x : Nat) : Int))) (S.2.1 1) 24)).2.1 1 y = (mdF (fun y x => gc (mg S s) ((y : Nat) : Int) (23 - ((x : Nat) : Int))) (S.2.1 1) 24) y from rfl, mdF, if_pos hy]; exact msk_lt24 _)) hO.r (ci := 2) rfl (lw_V q1851 q1853 qs31 q60 q1854) ⟨rfl, hdX3_puts⟩ rfl hl.1 rfl (Nat.le_of_ble_eq_true rfl) ⟨(Nat.le_of_ble_eq_true rfl), (Nat.le_of_ble_eq_true rfl)⟩ dX3_turn_98) (by omega) (by omega) (fun z_ H_ hp_ => ?_)
      obtain ⟨hz_, hM, hF2⟩ := hp_
      have hF := hF.tr hF2
      exact pb_iret C dX3_turn_101 (⟨_, rfl, hz_, hM, hF⟩)
    · refine pb_aload_n C dX3_turn_40 rfl (lv_at hl 0 rfl) ?_
      refine pb_get C in_X3 hO.r (ci := 2) rfl 3 (by decide) q1740 (fun _ h9 => h9) (v := .ref (o + 2)) rfl dX3_turn_41 ?_
      refine pb_iload_n C dX3_turn_44 rfl (lv_at hl 3 rfl) ?_
      refine pb_ic C dX3_turn_45 ?_
      refine pb_iast C hA2 (i := ((k : Nat) : Int)) (by omega) (by omega) dX3_turn_46 fun H2_ hu_ hA2 => ?_
      rw [show (Value.int (iZ 0)) = Value.int (iZ ((0 : Nat) : Int)) from rfl, pb_upN, Int.toNat_natCast, mdI_0] at hA2
      have hG := hG.kept (hu_.z (by omega))
      have hO := hO.kept (hu_.2 _ (by omega))
      have hA1 := hA1.kept (hu_.2 _ (by omega))
      have hA3 := hA3.kept (hu_.2 _ (by omega))
      have hA4 := hA4.kept (hu_.2 _ (by omega))
      have hA5 := hA5.kept (hu_.2 _ (by omega))
      have hA6 := hA6.kept (hu_.2 _ (by omega))
      have hA7 := hA7.kept (hu_.2 _ (by omega))
      have hA8 := hA8.kept (hu_.2 _ (by omega))
      have hA9 := hA9.kept (hu_.2 _ (by omega))
      have hA10 := hA10.kept (hu_.2 _ (by omega))
      have hA11 := hA11.kept (hu_.2 _ (by omega))
      have hA12 := hA12.kept (hu_.2 _ (by omega))
      have hF := hF.up hu_ (by omega)
      refine pb_ic C dX3_turn_47 ?_
      refine pb_istore C dX3_turn_48 hl (by decide) rfl fun ls hl => ?_
      have hl : lv_has ls 5 [(4, .int (iZ (0))), (0, .ref (o)), (1, .int (iZ (((s : Nat) : Int)))), (2, .int (iZ (((t : Nat) : Int)))), (3, .int (iZ (((k : Nat) : Int))))] := hl
      exact pb_V.mono (by omega) (by omega) (L50 _ 0 H2_ rfl hG (by omega) (by omega) ⟨hz, hO, hA1, hA2, hA3, hA4, hA5, hA6, hA7, hA8, hA9, hA10, hA11, hA12⟩ hF ls (lv_sub hl [1, 2, 3, 4, 0] rfl))
  refine pb_aload_n C dX3_turn_0 rfl (lv_at hl 0 rfl) ?_
  refine pb_iload_n C dX3_turn_1 rfl (lv_at hl 1 rfl) ?_
  refine pb_go_x (bc' := 0) (bs' := 0) (pb_runS (rest := [.ref (o)]) C hG (met_X3_isSheet l (((s : Nat) : Int)) (by omega)) (lw_S q1794 q1795 q60 q1796) hdX3_isSheet rfl hl.1 rfl (Nat.le_of_ble_eq_true rfl) ⟨(Nat.le_of_ble_eq_true rfl), (Nat.le_of_ble_eq_true rfl)⟩ dX3_turn_2) (by omega) (by omega) ?_
  refine pb_ifB_eq C dX3_turn_5 (tgt := 15) (by decide) (fun c5_ => ?_) (fun c5_ => ?_)
  · have c5_ := of_decide_eq_false c5_
    omega
  · have c5_ := of_decide_eq_true c5_
    refine pb_iload_n C dX3_turn_8 rfl (lv_at hl 2 rfl) ?_
    refine pb_go_x (bc' := 0) (bs' := 0) (pb_runS (rest := [.ref (o)]) C hG (met_X3_isSheet l (((t : Nat) : Int)) (by omega)) (lw_S q1794 q1795 q60 q1796) hdX3_isSheet rfl hl.1 rfl (Nat.le_of_ble_eq_true rfl) ⟨(Nat.le_of_ble_eq_true rfl), (Nat.le_of_ble_eq_true rfl)⟩ dX3_turn_9) (by omega) (by omega) ?_
    refine pb_ifB_ne C dX3_turn_12 (tgt := 19) (by decide) (fun c12_ => ?_) (fun c12_ => ?_)
    · have c12_ := of_decide_eq_true c12_
      refine pb_ic C dX3_turn_19 ?_
      refine pb_put C in_X3 tyX3 tyX3_ok nmX3 hO (ci := 2) rfl 0 (by decide) q1737 (fun _ h9 => h9) rfl (v := .int (iZ (0))) rfl rfl (Nat.le_of_ble_eq_true rfl) (by omega) dX3_turn_20 fun H3_ hu_ hO => ?_
      have hO : pb_O w H3_ (o) 2 [.int (iZ (0)), .int (iZ ((S.1 1))), .ref (o + 1), .ref (o + 2), .ref (o + 3), .ref (o + 4), .ref (o + 5), .ref (o + 6), .ref (o + 7), .ref (o + 8), .ref (o + 9), .ref (o + 10), .ref (o + 11), .ref (o + 12), .int (iZ ((S.1 2))), .int (iZ ((S.1 3)))] := hO
      have hG := hG.kept (hu_.z (by omega))
      have hA1 := hA1.kept (hu_.2 _ (by omega))
      have hA2 := hA2.kept (hu_.2 _ (by omega))
      have hA3 := hA3.kept (hu_.2 _ (by omega))
      have hA4 := hA4.kept (hu_.2 _ (by omega))
      have hA5 := hA5.kept (hu_.2 _ (by omega))
      have hA6 := hA6.kept (hu_.2 _ (by omega))
      have hA7 := hA7.kept (hu_.2 _ (by omega))
      have hA8 := hA8.kept (hu_.2 _ (by omega))
      have hA9 := hA9.kept (hu_.2 _ (by omega))
      have hA10 := hA10.kept (hu_.2 _ (by omega))
      have hA11 := hA11.kept (hu_.2 _ (by omega))
      have hA12 := hA12.kept (hu_.2 _ (by omega))
      have hF := hF.up hu_ (by omega)
      refine pb_aload_n C dX3_turn_23 rfl (lv_at hl 0 rfl) ?_
      refine pb_get C in_X3 hO.r (ci := 2) rfl 0 (by decide) q1737 (fun _ h9 => h9) (v := .int (iZ (0))) rfl dX3_turn_24 ?_
      refine pb_if_eq C dX3_turn_27 (x := 0) (tgt := 32) (by decide) (by omega) (fun c27_ => ?_) (fun c27_ => ?_)
      · refine pb_ic C dX3_turn_32 ?_
        refine pb_istore_n C dX3_turn_33 rfl hl (by decide) rfl fun ls hl => ?_
        have hl : lv_has ls 5 [(3, .int (iZ (0))), (0, .ref (o)), (1, .int (iZ (((s : Nat) : Int)))), (2, .int (iZ (((t : Nat) : Int))))] := hl
        exact pb_V.mono (by omega) (by omega) (L34 _ 0 H3_ rfl hG (by omega) (by rw [mdF_0]; exact ⟨hz, hO, hA1, hA2, hA3, hA4, hA5, hA6, hA7, hA8, hA9, hA10, hA11, hA12⟩) hF ls (lv_sub hl [1, 2, 3, 0] rfl))
      · exact absurd c27_ (by decide)
    · have c12_ := of_decide_eq_false c12_
      omega

set_option maxHeartbeats 1000000 in
theorem met_X3_turn_1 {w : pb_W} (l : Launch) {H0 : Heap} (o : Nat) (S : mS) (hM : MW w H0 o S) (s t : Int) (hsr : -2147483648 ≤ s ∧ s ≤ 2147483647) (htr : -2147483648 ≤ t ∧ t ≤ 2147483647)  (hn : ¬ ((0 ≤ s ∧ s ≤ 7) ∧ 0 ≤ t ∧ t ≤ 7)) : pb_M w l yX3_turn cX3_turn 5 (some .int) 6 (0) (0) [.ref (o), .int (iZ (s)), .int (iZ (t))] H0 (pb_qi (fun z H1 => z = 0 ∧ MW w H1 o (mI S 0 1) ∧ mF o H0 H1)) := by
  refine pb_of (by decide +kernel) (Nat.le_of_ble_eq_true rfl) ?_
  intro p_ e_ s_ m_ ar_ bl_ me_ co_ ls C hh hG hl
  have hl : lv_has ls 5 [(0, .ref (o)), (1, .int (iZ (s))), (2, .int (iZ (t)))] := hl
  have hM0 := hM; obtain ⟨hz, hO, hA1, hA2, hA3, hA4, hA5, hA6, hA7, hA8, hA9, hA10, hA11, hA12⟩ := hM0
  have hF : mF o H0 H0 := mF.rf
  refine pb_aload_n C dX3_turn_0 rfl (lv_at hl 0 rfl) ?_
  refine pb_iload_n C dX3_turn_1 rfl (lv_at hl 1 rfl) ?_
  refine pb_go_x (bc' := 0) (bs' := 0) (pb_runS (rest := [.ref (o)]) C hG (met_X3_isSheet l s (by omega)) (lw_S q1794 q1795 q60 q1796) hdX3_isSheet rfl hl.1 rfl (Nat.le_of_ble_eq_true rfl) ⟨(Nat.le_of_ble_eq_true rfl), (Nat.le_of_ble_eq_true rfl)⟩ dX3_turn_2) (by omega) (by omega) ?_
  refine pb_ifB_eq C dX3_turn_5 (tgt := 15) (by decide) (fun c5_ => ?_) (fun c5_ => ?_)
  · have c5_ := of_decide_eq_false c5_
    refine pb_ic C dX3_turn_15 ?_
    refine pb_goto C dX3_turn_16 (tgt := 20) (by decide) ?_
    refine pb_put C in_X3 tyX3 tyX3_ok nmX3 hO (ci := 2) rfl 0 (by decide) q1737 (fun _ h9 => h9) rfl (v := .int (iZ (1))) rfl rfl (Nat.le_of_ble_eq_true rfl) (by omega) dX3_turn_20 fun H1_ hu_ hO => ?_
    have hO : pb_O w H1_ (o) 2 [.int (iZ (1)), .int (iZ ((S.1 1))), .ref (o + 1), .ref (o + 2), .ref (o + 3), .ref (o + 4), .ref (o + 5), .ref (o + 6), .ref (o + 7), .ref (o + 8), .ref (o + 9), .ref (o + 10), .ref (o + 11), .ref (o + 12), .int (iZ ((S.1 2))), .int (iZ ((S.1 3)))] := hO
    have hG := hG.kept (hu_.z (by omega))
    have hA1 := hA1.kept (hu_.2 _ (by omega))
    have hA2 := hA2.kept (hu_.2 _ (by omega))
    have hA3 := hA3.kept (hu_.2 _ (by omega))
    have hA4 := hA4.kept (hu_.2 _ (by omega))
    have hA5 := hA5.kept (hu_.2 _ (by omega))
    have hA6 := hA6.kept (hu_.2 _ (by omega))
    have hA7 := hA7.kept (hu_.2 _ (by omega))
    have hA8 := hA8.kept (hu_.2 _ (by omega))
    have hA9 := hA9.kept (hu_.2 _ (by omega))
    have hA10 := hA10.kept (hu_.2 _ (by omega))
    have hA11 := hA11.kept (hu_.2 _ (by omega))
    have hA12 := hA12.kept (hu_.2 _ (by omega))
    have hF := hF.up hu_ (by omega)
    refine pb_aload_n C dX3_turn_23 rfl (lv_at hl 0 rfl) ?_
    refine pb_get C in_X3 hO.r (ci := 2) rfl 0 (by decide) q1737 (fun _ h9 => h9) (v := .int (iZ (1))) rfl dX3_turn_24 ?_
    refine pb_if_eq C dX3_turn_27 (x := 1) (tgt := 32) (by decide) (by omega) (fun c27_ => ?_) (fun c27_ => ?_)
    · exact absurd c27_ (by decide)
    · refine pb_ic C dX3_turn_30 ?_
      exact pb_iret C dX3_turn_31 (⟨_, rfl, rfl, ⟨hz, hO, hA1, hA2, hA3, hA4, hA5, hA6, hA7, hA8, hA9, hA10, hA11, hA12⟩, hF⟩)
  · have c5_ := of_decide_eq_true c5_
    refine pb_iload_n C dX3_turn_8 rfl (lv_at hl 2 rfl) ?_
    refine pb_go_x (bc' := 0) (bs' := 0) (pb_runS (rest := [.ref (o)]) C hG (met_X3_isSheet l t (by omega)) (lw_S q1794 q1795 q60 q1796) hdX3_isSheet rfl hl.1 rfl (Nat.le_of_ble_eq_true rfl) ⟨(Nat.le_of_ble_eq_true rfl), (Nat.le_of_ble_eq_true rfl)⟩ dX3_turn_9) (by omega) (by omega) ?_
    refine pb_ifB_ne C dX3_turn_12 (tgt := 19) (by decide) (fun c12_ => ?_) (fun c12_ => ?_)
    · have c12_ := of_decide_eq_true c12_
      omega
    · have c12_ := of_decide_eq_false c12_
      refine pb_ic C dX3_turn_15 ?_
      refine pb_goto C dX3_turn_16 (tgt := 20) (by decide) ?_
      refine pb_put C in_X3 tyX3 tyX3_ok nmX3 hO (ci := 2) rfl 0 (by decide) q1737 (fun _ h9 => h9) rfl (v := .int (iZ (1))) rfl rfl (Nat.le_of_ble_eq_true rfl) (by omega) dX3_turn_20 fun H2_ hu_ hO => ?_
      have hO : pb_O w H2_ (o) 2 [.int (iZ (1)), .int (iZ ((S.1 1))), .ref (o + 1), .ref (o + 2), .ref (o + 3), .ref (o + 4), .ref (o + 5), .ref (o + 6), .ref (o + 7), .ref (o + 8), .ref (o + 9), .ref (o + 10), .ref (o + 11), .ref (o + 12), .int (iZ ((S.1 2))), .int (iZ ((S.1 3)))] := hO
      have hG := hG.kept (hu_.z (by omega))
      have hA1 := hA1.kept (hu_.2 _ (by omega))
      have hA2 := hA2.kept (hu_.2 _ (by omega))
      have hA3 := hA3.kept (hu_.2 _ (by omega))
      have hA4 := hA4.kept (hu_.2 _ (by omega))
      have hA5 := hA5.kept (hu_.2 _ (by omega))
      have hA6 := hA6.kept (hu_.2 _ (by omega))
      have hA7 := hA7.kept (hu_.2 _ (by omega))
      have hA8 := hA8.kept (hu_.2 _ (by omega))
      have hA9 := hA9.kept (hu_.2 _ (by omega))
      have hA10 := hA10.kept (hu_.2 _ (by omega))
      have hA11 := hA11.kept (hu_.2 _ (by omega))
      have hA12 := hA12.kept (hu_.2 _ (by omega))
      have hF := hF.up hu_ (by omega)
      refine pb_aload_n C dX3_turn_23 rfl (lv_at hl 0 rfl) ?_
      refine pb_get C in_X3 hO.r (ci := 2) rfl 0 (by decide) q1737 (fun _ h9 => h9) (v := .int (iZ (1))) rfl dX3_turn_24 ?_
      refine pb_if_eq C dX3_turn_27 (x := 1) (tgt := 32) (by decide) (by omega) (fun c27_ => ?_) (fun c27_ => ?_)
      · exact absurd c27_ (by decide)
      · refine pb_ic C dX3_turn_30 ?_
        exact pb_iret C dX3_turn_31 (⟨_, rfl, rfl, ⟨hz, hO, hA1, hA2, hA3, hA4, hA5, hA6, hA7, hA8, hA9, hA10, hA11, hA12⟩, hF⟩)

set_option maxHeartbeats 1000000 in
theorem met_X3_mirror {w : pb_W} (l : Launch) {H0 : Heap} (o : Nat) (S : mS) (hM : MW w H0 o S) (s t : Nat) (hs : s < 8) (ht : t < 8) (hb : mok S) : pb_M w l yX3_mirror cX3_mirror 5 (some .int) 6 (0) (0) [.ref (o), .int (iZ (((s : Nat) : Int))), .int (iZ (((t : Nat) : Int)))] H0 (pb_qi (fun z H1 => z = ((cnt (mg (mB (mB (mI S 0 0) 1 (mdF (fun y x => gc (mg S s) (23 - ((x : Nat) : Int)) ((y : Nat) : Int)) (S.2.1 1) 24)) 0 (rowsF (mB (mI S 0 0) 1 (mdF (fun y x => gc (mg S s) (23 - ((x : Nat) : Int)) ((y : Nat) : Int)) (S.2.1 1) 24)) t 0 24 (mdF (fun y x => gc (mg S s) (23 - ((x : Nat) : Int)) ((y : Nat) : Int)) (S.2.1 1) 24))) t) : Nat) : Int) ∧ MW w H1 o (mB (mB (mI S 0 0) 1 (mdF (fun y x => gc (mg S s) (23 - ((x : Nat) : Int)) ((y : Nat) : Int)) (S.2.1 1) 24)) 0 (rowsF (mB (mI S 0 0) 1 (mdF (fun y x => gc (mg S s) (23 - ((x : Nat) : Int)) ((y : Nat) : Int)) (S.2.1 1) 24)) t 0 24 (mdF (fun y x => gc (mg S s) (23 - ((x : Nat) : Int)) ((y : Nat) : Int)) (S.2.1 1) 24))) ∧ mF o H0 H1)) := by
  refine pb_of (by decide +kernel) (Nat.le_of_ble_eq_true rfl) ?_
  intro p_ e_ s_ m_ ar_ bl_ me_ co_ ls C hh hG hl
  have hl : lv_has ls 5 [(0, .ref (o)), (1, .int (iZ (((s : Nat) : Int)))), (2, .int (iZ (((t : Nat) : Int))))] := hl
  have hM0 := hM; obtain ⟨hz, hO, hA1, hA2, hA3, hA4, hA5, hA6, hA7, hA8, hA9, hA10, hA11, hA12⟩ := hM0
  have hF : mF o H0 H0 := mF.rf
  have L34 : ∀ (n_ : Nat) (k : Nat) (H : Heap), 24 - k = n_ → (pb_G w s_ H) → (k ≤ 24) → (MW w H o (mB (mI S 0 0) 1 (mdF (fun y x => gc (mg S s) (23 - ((x : Nat) : Int)) ((y : Nat) : Int)) (S.2.1 1) k))) → (mF o H0 H) → ∀ (ls : Array Slot), lv_has ls 5 [(0, .ref (o)), (1, .int (iZ (((s : Nat) : Int)))), (2, .int (iZ (((t : Nat) : Int)))), (3, .int (iZ (((k : Nat) : Int))))] → pb_V w.2.2.2 p_ l e_ (pb_rm 6 (0) (0)) s_ m_ ar_ bl_ me_ co_ H (0) (0) (pb_E w bl_ ar_ s_ (0) (0) (pb_qi (fun z H1 => z = ((cnt (mg (mB (mB (mI S 0 0) 1 (mdF (fun y x => gc (mg S s) (23 - ((x : Nat) : Int)) ((y : Nat) : Int)) (S.2.1 1) 24)) 0 (rowsF (mB (mI S 0 0) 1 (mdF (fun y x => gc (mg S s) (23 - ((x : Nat) : Int)) ((y : Nat) : Int)) (S.2.1 1) 24)) t 0 24 (mdF (fun y x => gc (mg S s) (23 - ((x : Nat) : Int)) ((y : Nat) : Int)) (S.2.1 1) 24))) t) : Nat) : Int) ∧ MW w H1 o (mB (mB (mI S 0 0) 1 (mdF (fun y x => gc (mg S s) (23 - ((x : Nat) : Int)) ((y : Nat) : Int)) (S.2.1 1) 24)) 0 (rowsF (mB (mI S 0 0) 1 (mdF (fun y x => gc (mg S s) (23 - ((x : Nat) : Int)) ((y : Nat) : Int)) (S.2.1 1) 24)) t 0 24 (mdF (fun y x => gc (mg S s) (23 - ((x : Nat) : Int)) ((y : Nat) : Int)) (S.2.1 1) 24))) ∧ mF o H0 H1))) (F0 m_ 34 ls []) := by
    intro n_
    induction n_ using Nat.strongRecOn with
    | _ n_ ih34 =>
    intro k H hm_ hG hk hM hF ls hl
    have hM0 := hM; obtain ⟨hz, hO, hA1, hA2, hA3, hA4, hA5, hA6, hA7, hA8, hA9, hA10, hA11, hA12⟩ := hM0
    have hO : pb_O w H o 2 [.int (iZ ((0))), .int (iZ ((S.1 1))), .ref (o + 1), .ref (o + 2), .ref (o + 3), .ref (o + 4), .ref (o + 5), .ref (o + 6), .ref (o + 7), .ref (o + 8), .ref (o + 9), .ref (o + 10), .ref (o + 11), .ref (o + 12), .int (iZ ((S.1 2))), .int (iZ ((S.1 3)))] := hO
    have hA1 : pb_A w H (o + 1) 0 192 (pb_nf (S.2.1 0)) := hA1
    have hA2 : pb_A w H (o + 2) 0 24 (pb_nf (mdF (fun y x => gc (mg S s) (23 - ((x : Nat) : Int)) ((y : Nat) : Int)) (S.2.1 1) k)) := hA2
    have hA3 : pb_A w H (o + 3) 0 26 (pb_nf (S.2.1 2)) := hA3
    have hA4 : pb_A w H (o + 4) 0 26 (pb_nf (S.2.1 3)) := hA4
    have hA5 : pb_A w H (o + 5) 0 40 (pb_zf (S.2.2 0)) := hA5
    have hA6 : pb_A w H (o + 6) 0 40 (pb_zf (S.2.2 1)) := hA6
    have hA7 : pb_A w H (o + 7) 0 576 (pb_zf (S.2.2 2)) := hA7
    have hA8 : pb_A w H (o + 8) 0 1300 (pb_zf (S.2.2 3)) := hA8
    have hA9 : pb_A w H (o + 9) 0 1300 (pb_zf (S.2.2 4)) := hA9
    have hA10 : pb_A w H (o + 10) 0 400 (pb_zf (S.2.2 5)) := hA10
    have hA11 : pb_A w H (o + 11) 0 400 (pb_zf (S.2.2 6)) := hA11
    have hA12 : pb_A w H (o + 12) 0 625 (pb_nf (S.2.1 4)) := hA12
    have L50 : ∀ (n_ : Nat) (j : Nat) (H : Heap), 24 - j = n_ → (pb_G w s_ H) → (k < 24) → (j ≤ 24) → (MW w H o (mB (mI S 0 0) 1 (mdI (fun y x => gc (mg S s) (23 - ((x : Nat) : Int)) ((y : Nat) : Int)) (S.2.1 1) k j))) → (mF o H0 H) → ∀ (ls : Array Slot), lv_has ls 5 [(0, .ref (o)), (1, .int (iZ (((s : Nat) : Int)))), (2, .int (iZ (((t : Nat) : Int)))), (3, .int (iZ (((k : Nat) : Int)))), (4, .int (iZ (((j : Nat) : Int))))] → pb_V w.2.2.2 p_ l e_ (pb_rm 6 (0) (0)) s_ m_ ar_ bl_ me_ co_ H (0) (0) (pb_E w bl_ ar_ s_ (0) (0) (pb_qi (fun z H1 => z = ((cnt (mg (mB (mB (mI S 0 0) 1 (mdF (fun y x => gc (mg S s) (23 - ((x : Nat) : Int)) ((y : Nat) : Int)) (S.2.1 1) 24)) 0 (rowsF (mB (mI S 0 0) 1 (mdF (fun y x => gc (mg S s) (23 - ((x : Nat) : Int)) ((y : Nat) : Int)) (S.2.1 1) 24)) t 0 24 (mdF (fun y x => gc (mg S s) (23 - ((x : Nat) : Int)) ((y : Nat) : Int)) (S.2.1 1) 24))) t) : Nat) : Int) ∧ MW w H1 o (mB (mB (mI S 0 0) 1 (mdF (fun y x => gc (mg S s) (23 - ((x : Nat) : Int)) ((y : Nat) : Int)) (S.2.1 1) 24)) 0 (rowsF (mB (mI S 0 0) 1 (mdF (fun y x => gc (mg S s) (23 - ((x : Nat) : Int)) ((y : Nat) : Int)) (S.2.1 1) 24)) t 0 24 (mdF (fun y x => gc (mg S s) (23 - ((x : Nat) : Int)) ((y : Nat) : Int)) (S.2.1 1) 24))) ∧ mF o H0 H1))) (F0 m_ 50 ls []) := by
      intro n_
      induction n_ using Nat.strongRecOn with
      | _ n_ ih50 =>
      intro j H hm_ hG hk2 hj hM hF ls hl
      have hM0 := hM; obtain ⟨hz, hO, hA1, hA2, hA3, hA4, hA5, hA6, hA7, hA8, hA9, hA10, hA11, hA12⟩ := hM0
      have hO : pb_O w H o 2 [.int (iZ ((0))), .int (iZ ((S.1 1))), .ref (o + 1), .ref (o + 2), .ref (o + 3), .ref (o + 4), .ref (o + 5), .ref (o + 6), .ref (o + 7), .ref (o + 8), .ref (o + 9), .ref (o + 10), .ref (o + 11), .ref (o + 12), .int (iZ ((S.1 2))), .int (iZ ((S.1 3)))] := hO
      have hA1 : pb_A w H (o + 1) 0 192 (pb_nf (S.2.1 0)) := hA1
      have hA2 : pb_A w H (o + 2) 0 24 (pb_nf (mdI (fun y x => gc (mg S s) (23 - ((x : Nat) : Int)) ((y : Nat) : Int)) (S.2.1 1) k j)) := hA2
      have hA3 : pb_A w H (o + 3) 0 26 (pb_nf (S.2.1 2)) := hA3
      have hA4 : pb_A w H (o + 4) 0 26 (pb_nf (S.2.1 3)) := hA4
      have hA5 : pb_A w H (o + 5) 0 40 (pb_zf (S.2.2 0)) := hA5
      have hA6 : pb_A w H (o + 6) 0 40 (pb_zf (S.2.2 1)) := hA6
      have hA7 : pb_A w H (o + 7) 0 576 (pb_zf (S.2.2 2)) := hA7
      have hA8 : pb_A w H (o + 8) 0 1300 (pb_zf (S.2.2 3)) := hA8
      have hA9 : pb_A w H (o + 9) 0 1300 (pb_zf (S.2.2 4)) := hA9
      have hA10 : pb_A w H (o + 10) 0 400 (pb_zf (S.2.2 5)) := hA10
      have hA11 : pb_A w H (o + 11) 0 400 (pb_zf (S.2.2 6)) := hA11
      have hA12 : pb_A w H (o + 12) 0 625 (pb_nf (S.2.1 4)) := hA12
      refine pb_iload C dX3_mirror_50 (lv_at hl 4 rfl) ?_
      refine pb_bip C dX3_mirror_52 (by decide) ?_
      refine pb_icmp_ge C dX3_mirror_54 (x := ((j : Nat) : Int)) (y := 24) (tgt := 90) (by decide) (by omega) (by omega) (fun c54_ => ?_) (fun c54_ => ?_)
      · obtain rfl : j = 24 := by omega
        refine pb_iinc C dX3_mirror_90 hl (j := 3) (x := (((k : Nat) : Int))) rfl (by decide) rfl fun ls hl => ?_
        have hl : lv_has ls 5 [(3, .int (iZ ((((k + 1) : Nat) : Int)))), (0, .ref (o)), (1, .int (iZ (((s : Nat) : Int)))), (2, .int (iZ (((t : Nat) : Int)))), (4, .int (iZ (((24 : Nat) : Int))))] := hl
        refine pb_goto C dX3_mirror_93 (tgt := 34) (by decide) ?_
        exact pb_V.mono (by omega) (by omega) (ih34 _ (by omega) (k + 1) H rfl hG (by omega) (by rw [← mdI_24]; exact hM) hF ls (lv_sub hl [1, 2, 3, 0] rfl))
      · refine pb_aload_n C dX3_mirror_57 rfl (lv_at hl 0 rfl) ?_
        refine pb_iload_n C dX3_mirror_58 rfl (lv_at hl 1 rfl) ?_
        refine pb_bip C dX3_mirror_59 (by decide) ?_
        refine pb_iload C dX3_mirror_61 (lv_at hl 4 rfl) ?_
        refine pb_isub C dX3_mirror_63 ?_
        refine pb_iload_n C dX3_mirror_64 rfl (lv_at hl 3 rfl) ?_
        refine pb_go_x (bc' := 0) (bs' := 0) (pb_runV (rest := []) C hG (met_X3_has l o (mB (mI S 0 0) 1 (mdI (fun y x => gc (mg S s) (23 - ((x : Nat) : Int)) ((y : Nat) : Int)) (S.2.1 1) k j)) hM s hs hb (23 - ((j : Nat) : Int)) ((k : Nat) : Int) (by omega) (by omega)) hO.r (ci := 2) rfl (lw_V q1875 q1877 qs35 q60 q1878) ⟨rfl, hdX3_has⟩ rfl hl.1 rfl (Nat.le_of_ble_eq_true rfl) ⟨(Nat.le_of_ble_eq_true rfl), (Nat.le_of_ble_eq_true rfl)⟩ dX3_mirror_65) (by omega) (by omega) ?_
        refine pb_ifB_eq C dX3_mirror_68 (tgt := 84) (by decide) (fun c68_ => ?_) (fun c68_ => ?_)
        · have hφ : (fun y x => gc (mg S s) (23 - ((x : Nat) : Int)) ((y : Nat) : Int)) k j = false := c68_
          refine pb_iinc C dX3_mirror_84 hl (j := 4) (x := (((j : Nat) : Int))) rfl (by decide) rfl fun ls hl => ?_
          have hl : lv_has ls 5 [(4, .int (iZ ((((j + 1) : Nat) : Int)))), (0, .ref (o)), (1, .int (iZ (((s : Nat) : Int)))), (2, .int (iZ (((t : Nat) : Int)))), (3, .int (iZ (((k : Nat) : Int))))] := hl
          refine pb_goto C dX3_mirror_87 (tgt := 50) (by decide) ?_
          exact pb_V.mono (by omega) (by omega) (ih50 _ (by omega) (j + 1) H rfl hG (by omega) (by omega) (by rw [← mdI_f (fun y x => gc (mg S s) (23 - ((x : Nat) : Int)) ((y : Nat) : Int)) (S.2.1 1) k j hφ]; exact hM) hF ls (lv_sub hl [1, 2, 3, 4, 0] rfl))
        · have hφ : (fun y x => gc (mg S s) (23 - ((x : Nat) : Int)) ((y : Nat) : Int)) k j = true := c68_
          refine pb_aload_n C dX3_mirror_71 rfl (lv_at hl 0 rfl) ?_
          refine pb_get C in_X3 hO.r (ci := 2) rfl 3 (by decide) q1740 (fun _ h9 => h9) (v := .ref (o + 2)) rfl dX3_mirror_72 ?_
          refine pb_iload_n C dX3_mirror_75 rfl (lv_at hl 3 rfl) ?_
          refine pb_dup2 C dX3_mirror_76 rfl rfl ?_
          refine pb_iald C hA2.b (i := ((k : Nat) : Int)) (v := .int (iZ ((((msk ((fun y x => gc (mg S s) (23 - ((x : Nat) : Int)) ((y : Nat) : Int)) k) j) : Nat) : Int)))) (by omega) (congrArg (fun n : Nat => Value.int (iZ (n : Int))) (mdI_at (fun y x => gc (mg S s) (23 - ((x : Nat) : Int)) ((y : Nat) : Int)) (S.2.1 1) k j)) dX3_mirror_77 ?_
          refine pb_ic C dX3_mirror_78 ?_
          refine pb_iload C dX3_mirror_79 (lv_at hl 4 rfl) ?_
          refine pb_ishl C dX3_mirror_81 (x := 1) (y := j) (by omega) ?_
          refine pb_ior C dX3_mirror_82 (x := (msk ((fun y x => gc (mg S s) (23 - ((x : Nat) : Int)) ((y : Nat) : Int)) k) j)) (y := (1 <<< j)) ?_
          refine pb_iast C hA2 (i := ((k : Nat) : Int)) (by omega) (by omega) dX3_mirror_83 fun H1_ hu_ hA2 => ?_
          rw [pb_upN, Int.toNat_natCast, mdI_t (fun y x => gc (mg S s) (23 - ((x : Nat) : Int)) ((y : Nat) : Int)) (S.2.1 1) k j hφ rfl] at hA2
          have hG := hG.kept (hu_.z (by omega))
          have hO := hO.kept (hu_.2 _ (by omega))
          have hA1 := hA1.kept (hu_.2 _ (by omega))
          have hA3 := hA3.kept (hu_.2 _ (by omega))
          have hA4 := hA4.kept (hu_.2 _ (by omega))
          have hA5 := hA5.kept (hu_.2 _ (by omega))
          have hA6 := hA6.kept (hu_.2 _ (by omega))
          have hA7 := hA7.kept (hu_.2 _ (by omega))
          have hA8 := hA8.kept (hu_.2 _ (by omega))
          have hA9 := hA9.kept (hu_.2 _ (by omega))
          have hA10 := hA10.kept (hu_.2 _ (by omega))
          have hA11 := hA11.kept (hu_.2 _ (by omega))
          have hA12 := hA12.kept (hu_.2 _ (by omega))
          have hF := hF.up hu_ (by omega)
          refine pb_iinc C dX3_mirror_84 hl (j := 4) (x := (((j : Nat) : Int))) rfl (by decide) rfl fun ls hl => ?_
          have hl : lv_has ls 5 [(4, .int (iZ ((((j + 1) : Nat) : Int)))), (0, .ref (o)), (1, .int (iZ (((s : Nat) : Int)))), (2, .int (iZ (((t : Nat) : Int)))), (3, .int (iZ (((k : Nat) : Int))))] := hl
          refine pb_goto C dX3_mirror_87 (tgt := 50) (by decide) ?_
          exact pb_V.mono (by omega) (by omega) (ih50 _ (by omega) (j + 1) H1_ rfl hG (by omega) (by omega) ⟨hz, hO, hA1, hA2, hA3, hA4, hA5, hA6, hA7, hA8, hA9, hA10, hA11, hA12⟩ hF ls (lv_sub hl [1, 2, 3, 4, 0] rfl))
    refine pb_iload_n C dX3_mirror_34 rfl (lv_at hl 3 rfl) ?_
    refine pb_bip C dX3_mirror_35 (by decide) ?_
    refine pb_icmp_ge C dX3_mirror_37 (x := ((k : Nat) : Int)) (y := 24) (tgt := 96) (by decide) (by omega) (by omega) (fun c37_ => ?_) (fun c37_ => ?_)
    · obtain rfl : k = 24 := by omega
      refine pb_aload_n C dX3_mirror_96 rfl (lv_at hl 0 rfl) ?_
      refine pb_iload_n C dX3_mirror_97 rfl (lv_at hl 2 rfl) ?_
      refine pb_go_i (bc' := 0) (bs' := 0) (pb_runV (rest := []) C hG (met_X3_puts l o (mB (mI S 0 0) 1 (mdF (fun y x => gc (mg S s) (23 - ((x : Nat) : Int)) ((y : Nat) : Int)) (S.2.1 1) 24)) hM t ht hb (fun y hy => by rw [show (mB (mI S 0 0) 1 (mdF (fun y x => gc (mg S s) (23 - ((x : Nat) : Int)) ((y : Nat) : Int)) (S.2.1 1) 24)).2.1 1 y = (mdF (fun y x => gc (mg S s) (23 - ((x : Nat) : Int)) ((y : Nat) : Int)) (S.2.1 1) 24) y from rfl, mdF, if_pos hy]; exact msk_lt24 _)) hO.r (ci := 2) rfl (lw_V q1851 q1853 qs31 q60 q1854) ⟨rfl, hdX3_puts⟩ rfl hl.1 rfl (Nat.le_of_ble_eq_true rfl) ⟨(Nat.le_of_ble_eq_true rfl), (Nat.le_of_ble_eq_true rfl)⟩ dX3_mirror_98) (by omega) (by omega) (fun z_ H_ hp_ => ?_)
      obtain ⟨hz_, hM, hF2⟩ := hp_
      have hF := hF.tr hF2
      exact pb_iret C dX3_mirror_101 (⟨_, rfl, hz_, hM, hF⟩)
    · refine pb_aload_n C dX3_mirror_40 rfl (lv_at hl 0 rfl) ?_
      refine pb_get C in_X3 hO.r (ci := 2) rfl 3 (by decide) q1740 (fun _ h9 => h9) (v := .ref (o + 2)) rfl dX3_mirror_41 ?_
      refine pb_iload_n C dX3_mirror_44 rfl (lv_at hl 3 rfl) ?_
      refine pb_ic C dX3_mirror_45 ?_
      refine pb_iast C hA2 (i := ((k : Nat) : Int)) (by omega) (by omega) dX3_mirror_46 fun H2_ hu_ hA2 => ?_
      rw [show (Value.int (iZ 0)) = Value.int (iZ ((0 : Nat) : Int)) from rfl, pb_upN, Int.toNat_natCast, mdI_0] at hA2
      have hG := hG.kept (hu_.z (by omega))
      have hO := hO.kept (hu_.2 _ (by omega))
      have hA1 := hA1.kept (hu_.2 _ (by omega))
      have hA3 := hA3.kept (hu_.2 _ (by omega))
      have hA4 := hA4.kept (hu_.2 _ (by omega))
      have hA5 := hA5.kept (hu_.2 _ (by omega))
      have hA6 := hA6.kept (hu_.2 _ (by omega))
      have hA7 := hA7.kept (hu_.2 _ (by omega))
      have hA8 := hA8.kept (hu_.2 _ (by omega))
      have hA9 := hA9.kept (hu_.2 _ (by omega))
      have hA10 := hA10.kept (hu_.2 _ (by omega))
      have hA11 := hA11.kept (hu_.2 _ (by omega))
      have hA12 := hA12.kept (hu_.2 _ (by omega))
      have hF := hF.up hu_ (by omega)
      refine pb_ic C dX3_mirror_47 ?_
      refine pb_istore C dX3_mirror_48 hl (by decide) rfl fun ls hl => ?_
      have hl : lv_has ls 5 [(4, .int (iZ (0))), (0, .ref (o)), (1, .int (iZ (((s : Nat) : Int)))), (2, .int (iZ (((t : Nat) : Int)))), (3, .int (iZ (((k : Nat) : Int))))] := hl
      exact pb_V.mono (by omega) (by omega) (L50 _ 0 H2_ rfl hG (by omega) (by omega) ⟨hz, hO, hA1, hA2, hA3, hA4, hA5, hA6, hA7, hA8, hA9, hA10, hA11, hA12⟩ hF ls (lv_sub hl [1, 2, 3, 4, 0] rfl))
  refine pb_aload_n C dX3_mirror_0 rfl (lv_at hl 0 rfl) ?_
  refine pb_iload_n C dX3_mirror_1 rfl (lv_at hl 1 rfl) ?_
  refine pb_go_x (bc' := 0) (bs' := 0) (pb_runS (rest := [.ref (o)]) C hG (met_X3_isSheet l (((s : Nat) : Int)) (by omega)) (lw_S q1794 q1795 q60 q1796) hdX3_isSheet rfl hl.1 rfl (Nat.le_of_ble_eq_true rfl) ⟨(Nat.le_of_ble_eq_true rfl), (Nat.le_of_ble_eq_true rfl)⟩ dX3_mirror_2) (by omega) (by omega) ?_
  refine pb_ifB_eq C dX3_mirror_5 (tgt := 15) (by decide) (fun c5_ => ?_) (fun c5_ => ?_)
  · have c5_ := of_decide_eq_false c5_
    omega
  · have c5_ := of_decide_eq_true c5_
    refine pb_iload_n C dX3_mirror_8 rfl (lv_at hl 2 rfl) ?_
    refine pb_go_x (bc' := 0) (bs' := 0) (pb_runS (rest := [.ref (o)]) C hG (met_X3_isSheet l (((t : Nat) : Int)) (by omega)) (lw_S q1794 q1795 q60 q1796) hdX3_isSheet rfl hl.1 rfl (Nat.le_of_ble_eq_true rfl) ⟨(Nat.le_of_ble_eq_true rfl), (Nat.le_of_ble_eq_true rfl)⟩ dX3_mirror_9) (by omega) (by omega) ?_
    refine pb_ifB_ne C dX3_mirror_12 (tgt := 19) (by decide) (fun c12_ => ?_) (fun c12_ => ?_)
    · have c12_ := of_decide_eq_true c12_
      refine pb_ic C dX3_mirror_19 ?_
      refine pb_put C in_X3 tyX3 tyX3_ok nmX3 hO (ci := 2) rfl 0 (by decide) q1737 (fun _ h9 => h9) rfl (v := .int (iZ (0))) rfl rfl (Nat.le_of_ble_eq_true rfl) (by omega) dX3_mirror_20 fun H3_ hu_ hO => ?_
      have hO : pb_O w H3_ (o) 2 [.int (iZ (0)), .int (iZ ((S.1 1))), .ref (o + 1), .ref (o + 2), .ref (o + 3), .ref (o + 4), .ref (o + 5), .ref (o + 6), .ref (o + 7), .ref (o + 8), .ref (o + 9), .ref (o + 10), .ref (o + 11), .ref (o + 12), .int (iZ ((S.1 2))), .int (iZ ((S.1 3)))] := hO
      have hG := hG.kept (hu_.z (by omega))
      have hA1 := hA1.kept (hu_.2 _ (by omega))
      have hA2 := hA2.kept (hu_.2 _ (by omega))
      have hA3 := hA3.kept (hu_.2 _ (by omega))
      have hA4 := hA4.kept (hu_.2 _ (by omega))
      have hA5 := hA5.kept (hu_.2 _ (by omega))
      have hA6 := hA6.kept (hu_.2 _ (by omega))
      have hA7 := hA7.kept (hu_.2 _ (by omega))
      have hA8 := hA8.kept (hu_.2 _ (by omega))
      have hA9 := hA9.kept (hu_.2 _ (by omega))
      have hA10 := hA10.kept (hu_.2 _ (by omega))
      have hA11 := hA11.kept (hu_.2 _ (by omega))
      have hA12 := hA12.kept (hu_.2 _ (by omega))
      have hF := hF.up hu_ (by omega)
      refine pb_aload_n C dX3_mirror_23 rfl (lv_at hl 0 rfl) ?_
      refine pb_get C in_X3 hO.r (ci := 2) rfl 0 (by decide) q1737 (fun _ h9 => h9) (v := .int (iZ (0))) rfl dX3_mirror_24 ?_
      refine pb_if_eq C dX3_mirror_27 (x := 0) (tgt := 32) (by decide) (by omega) (fun c27_ => ?_) (fun c27_ => ?_)
      · refine pb_ic C dX3_mirror_32 ?_
        refine pb_istore_n C dX3_mirror_33 rfl hl (by decide) rfl fun ls hl => ?_
        have hl : lv_has ls 5 [(3, .int (iZ (0))), (0, .ref (o)), (1, .int (iZ (((s : Nat) : Int)))), (2, .int (iZ (((t : Nat) : Int))))] := hl
        exact pb_V.mono (by omega) (by omega) (L34 _ 0 H3_ rfl hG (by omega) (by rw [mdF_0]; exact ⟨hz, hO, hA1, hA2, hA3, hA4, hA5, hA6, hA7, hA8, hA9, hA10, hA11, hA12⟩) hF ls (lv_sub hl [1, 2, 3, 0] rfl))
      · exact absurd c27_ (by decide)
    · have c12_ := of_decide_eq_false c12_
      omega

set_option maxHeartbeats 1000000 in
theorem met_X3_mirror_1 {w : pb_W} (l : Launch) {H0 : Heap} (o : Nat) (S : mS) (hM : MW w H0 o S) (s t : Int) (hsr : -2147483648 ≤ s ∧ s ≤ 2147483647) (htr : -2147483648 ≤ t ∧ t ≤ 2147483647)  (hn : ¬ ((0 ≤ s ∧ s ≤ 7) ∧ 0 ≤ t ∧ t ≤ 7)) : pb_M w l yX3_mirror cX3_mirror 5 (some .int) 6 (0) (0) [.ref (o), .int (iZ (s)), .int (iZ (t))] H0 (pb_qi (fun z H1 => z = 0 ∧ MW w H1 o (mI S 0 1) ∧ mF o H0 H1)) := by
  refine pb_of (by decide +kernel) (Nat.le_of_ble_eq_true rfl) ?_
  intro p_ e_ s_ m_ ar_ bl_ me_ co_ ls C hh hG hl
  have hl : lv_has ls 5 [(0, .ref (o)), (1, .int (iZ (s))), (2, .int (iZ (t)))] := hl
  have hM0 := hM; obtain ⟨hz, hO, hA1, hA2, hA3, hA4, hA5, hA6, hA7, hA8, hA9, hA10, hA11, hA12⟩ := hM0
  have hF : mF o H0 H0 := mF.rf
  refine pb_aload_n C dX3_mirror_0 rfl (lv_at hl 0 rfl) ?_
  refine pb_iload_n C dX3_mirror_1 rfl (lv_at hl 1 rfl) ?_
  refine pb_go_x (bc' := 0) (bs' := 0) (pb_runS (rest := [.ref (o)]) C hG (met_X3_isSheet l s (by omega)) (lw_S q1794 q1795 q60 q1796) hdX3_isSheet rfl hl.1 rfl (Nat.le_of_ble_eq_true rfl) ⟨(Nat.le_of_ble_eq_true rfl), (Nat.le_of_ble_eq_true rfl)⟩ dX3_mirror_2) (by omega) (by omega) ?_
  refine pb_ifB_eq C dX3_mirror_5 (tgt := 15) (by decide) (fun c5_ => ?_) (fun c5_ => ?_)
  · have c5_ := of_decide_eq_false c5_
    refine pb_ic C dX3_mirror_15 ?_
    refine pb_goto C dX3_mirror_16 (tgt := 20) (by decide) ?_
    refine pb_put C in_X3 tyX3 tyX3_ok nmX3 hO (ci := 2) rfl 0 (by decide) q1737 (fun _ h9 => h9) rfl (v := .int (iZ (1))) rfl rfl (Nat.le_of_ble_eq_true rfl) (by omega) dX3_mirror_20 fun H1_ hu_ hO => ?_
    have hO : pb_O w H1_ (o) 2 [.int (iZ (1)), .int (iZ ((S.1 1))), .ref (o + 1), .ref (o + 2), .ref (o + 3), .ref (o + 4), .ref (o + 5), .ref (o + 6), .ref (o + 7), .ref (o + 8), .ref (o + 9), .ref (o + 10), .ref (o + 11), .ref (o + 12), .int (iZ ((S.1 2))), .int (iZ ((S.1 3)))] := hO
    have hG := hG.kept (hu_.z (by omega))
    have hA1 := hA1.kept (hu_.2 _ (by omega))
    have hA2 := hA2.kept (hu_.2 _ (by omega))
    have hA3 := hA3.kept (hu_.2 _ (by omega))
    have hA4 := hA4.kept (hu_.2 _ (by omega))
    have hA5 := hA5.kept (hu_.2 _ (by omega))
    have hA6 := hA6.kept (hu_.2 _ (by omega))
    have hA7 := hA7.kept (hu_.2 _ (by omega))
    have hA8 := hA8.kept (hu_.2 _ (by omega))
    have hA9 := hA9.kept (hu_.2 _ (by omega))
    have hA10 := hA10.kept (hu_.2 _ (by omega))
    have hA11 := hA11.kept (hu_.2 _ (by omega))
    have hA12 := hA12.kept (hu_.2 _ (by omega))
    have hF := hF.up hu_ (by omega)
    refine pb_aload_n C dX3_mirror_23 rfl (lv_at hl 0 rfl) ?_
    refine pb_get C in_X3 hO.r (ci := 2) rfl 0 (by decide) q1737 (fun _ h9 => h9) (v := .int (iZ (1))) rfl dX3_mirror_24 ?_
    refine pb_if_eq C dX3_mirror_27 (x := 1) (tgt := 32) (by decide) (by omega) (fun c27_ => ?_) (fun c27_ => ?_)
    · exact absurd c27_ (by decide)
    · refine pb_ic C dX3_mirror_30 ?_
      exact pb_iret C dX3_mirror_31 (⟨_, rfl, rfl, ⟨hz, hO, hA1, hA2, hA3, hA4, hA5, hA6, hA7, hA8, hA9, hA10, hA11, hA12⟩, hF⟩)
  · have c5_ := of_decide_eq_true c5_
    refine pb_iload_n C dX3_mirror_8 rfl (lv_at hl 2 rfl) ?_
    refine pb_go_x (bc' := 0) (bs' := 0) (pb_runS (rest := [.ref (o)]) C hG (met_X3_isSheet l t (by omega)) (lw_S q1794 q1795 q60 q1796) hdX3_isSheet rfl hl.1 rfl (Nat.le_of_ble_eq_true rfl) ⟨(Nat.le_of_ble_eq_true rfl), (Nat.le_of_ble_eq_true rfl)⟩ dX3_mirror_9) (by omega) (by omega) ?_
    refine pb_ifB_ne C dX3_mirror_12 (tgt := 19) (by decide) (fun c12_ => ?_) (fun c12_ => ?_)
    · have c12_ := of_decide_eq_true c12_
      omega
    · have c12_ := of_decide_eq_false c12_
      refine pb_ic C dX3_mirror_15 ?_
      refine pb_goto C dX3_mirror_16 (tgt := 20) (by decide) ?_
      refine pb_put C in_X3 tyX3 tyX3_ok nmX3 hO (ci := 2) rfl 0 (by decide) q1737 (fun _ h9 => h9) rfl (v := .int (iZ (1))) rfl rfl (Nat.le_of_ble_eq_true rfl) (by omega) dX3_mirror_20 fun H2_ hu_ hO => ?_
      have hO : pb_O w H2_ (o) 2 [.int (iZ (1)), .int (iZ ((S.1 1))), .ref (o + 1), .ref (o + 2), .ref (o + 3), .ref (o + 4), .ref (o + 5), .ref (o + 6), .ref (o + 7), .ref (o + 8), .ref (o + 9), .ref (o + 10), .ref (o + 11), .ref (o + 12), .int (iZ ((S.1 2))), .int (iZ ((S.1 3)))] := hO
      have hG := hG.kept (hu_.z (by omega))
      have hA1 := hA1.kept (hu_.2 _ (by omega))
      have hA2 := hA2.kept (hu_.2 _ (by omega))
      have hA3 := hA3.kept (hu_.2 _ (by omega))
      have hA4 := hA4.kept (hu_.2 _ (by omega))
      have hA5 := hA5.kept (hu_.2 _ (by omega))
      have hA6 := hA6.kept (hu_.2 _ (by omega))
      have hA7 := hA7.kept (hu_.2 _ (by omega))
      have hA8 := hA8.kept (hu_.2 _ (by omega))
      have hA9 := hA9.kept (hu_.2 _ (by omega))
      have hA10 := hA10.kept (hu_.2 _ (by omega))
      have hA11 := hA11.kept (hu_.2 _ (by omega))
      have hA12 := hA12.kept (hu_.2 _ (by omega))
      have hF := hF.up hu_ (by omega)
      refine pb_aload_n C dX3_mirror_23 rfl (lv_at hl 0 rfl) ?_
      refine pb_get C in_X3 hO.r (ci := 2) rfl 0 (by decide) q1737 (fun _ h9 => h9) (v := .int (iZ (1))) rfl dX3_mirror_24 ?_
      refine pb_if_eq C dX3_mirror_27 (x := 1) (tgt := 32) (by decide) (by omega) (fun c27_ => ?_) (fun c27_ => ?_)
      · exact absurd c27_ (by decide)
      · refine pb_ic C dX3_mirror_30 ?_
        exact pb_iret C dX3_mirror_31 (⟨_, rfl, rfl, ⟨hz, hO, hA1, hA2, hA3, hA4, hA5, hA6, hA7, hA8, hA9, hA10, hA11, hA12⟩, hF⟩)

