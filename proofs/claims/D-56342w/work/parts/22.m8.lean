set_option maxRecDepth 100000
set_option maxHeartbeats 1000000 in
theorem met_X3_pieces {w : pb_W} (l : Launch) {H0 : Heap} (o : Nat) (S : mS) (hM : MW w H0 o S) (c : Bool) (hT0 : ∀ y, y < 26 → S.2.1 3 y < 67108864) : pb_M w l yX3_pieces cX3_pieces 5 (some .int) 1 (0) (0) [.ref (o), .int (iZ ((bI (c))))] H0 (pb_qi (fun z H1 => ∃ (n : Nat) (P T : Nat → Nat), z = ((n : Nat) : Int) ∧ PCr c n (S.2.1 3) ∧ MW w H1 o (mB (mB S 2 P) 3 T) ∧ mF o H0 H1)) := by
  refine pb_of (by decide +kernel) (Nat.le_of_ble_eq_true rfl) ?_
  intro p_ e_ s_ m_ ar_ bl_ me_ co_ ls C hh hG hl
  have hl : lv_has ls 5 [(0, .ref (o)), (1, .int (iZ ((bI (c)))))] := hl
  have hM0 := hM; obtain ⟨hz, hO, hA1, hA2, hA3, hA4, hA5, hA6, hA7, hA8, hA9, hA10, hA11, hA12⟩ := hM0
  have hF : mF o H0 H0 := mF.rf
  have L4 : ∀ (n_ : Nat) (k n : Nat) (T P : Nat → Nat) (H : Heap), 26 - k = n_ → (pb_G w s_ H) → (MW w H o (mB (mB S 2 P) 3 T)) → (mF o H0 H) → (k ≤ 26) → (∀ y, y < 26 → T y < 67108864) → (∀ i, i < k → T i = 0) → (∀ m, PCr c m T → PCr c (n + m) (S.2.1 3)) → ∀ (ls : Array Slot), lv_has ls 5 [(0, .ref (o)), (1, .int (iZ ((bI (c))))), (2, .int (iZ (((n : Nat) : Int)))), (3, .int (iZ (((k : Nat) : Int))))] → pb_V w.2.2.2 p_ l e_ (pb_rm 1 (0) (0)) s_ m_ ar_ bl_ me_ co_ H (0) (0) (pb_E w bl_ ar_ s_ (0) (0) (pb_qi (fun z H1 => ∃ (n : Nat) (P T : Nat → Nat), z = ((n : Nat) : Int) ∧ PCr c n (S.2.1 3) ∧ MW w H1 o (mB (mB S 2 P) 3 T) ∧ mF o H0 H1))) (F0 m_ 4 ls []) := by
    intro n_
    induction n_ using Nat.strongRecOn with
    | _ n_ ih4 =>
    intro k n T P H hm_ hG hM hF hk hT hz_ hr_ ls hl
    have hM0 := hM; obtain ⟨hz, hO, hA1, hA2, hA3, hA4, hA5, hA6, hA7, hA8, hA9, hA10, hA11, hA12⟩ := hM0
    have hO : pb_O w H o 2 [.int (iZ ((S.1 0))), .int (iZ ((S.1 1))), .ref (o + 1), .ref (o + 2), .ref (o + 3), .ref (o + 4), .ref (o + 5), .ref (o + 6), .ref (o + 7), .ref (o + 8), .ref (o + 9), .ref (o + 10), .ref (o + 11), .ref (o + 12), .int (iZ ((S.1 2))), .int (iZ ((S.1 3)))] := hO
    have hA1 : pb_A w H (o + 1) 0 192 (pb_nf (S.2.1 0)) := hA1
    have hA2 : pb_A w H (o + 2) 0 24 (pb_nf (S.2.1 1)) := hA2
    have hA3 : pb_A w H (o + 3) 0 26 (pb_nf (P)) := hA3
    have hA4 : pb_A w H (o + 4) 0 26 (pb_nf (T)) := hA4
    have hA5 : pb_A w H (o + 5) 0 40 (pb_zf (S.2.2 0)) := hA5
    have hA6 : pb_A w H (o + 6) 0 40 (pb_zf (S.2.2 1)) := hA6
    have hA7 : pb_A w H (o + 7) 0 576 (pb_zf (S.2.2 2)) := hA7
    have hA8 : pb_A w H (o + 8) 0 1300 (pb_zf (S.2.2 3)) := hA8
    have hA9 : pb_A w H (o + 9) 0 1300 (pb_zf (S.2.2 4)) := hA9
    have hA10 : pb_A w H (o + 10) 0 400 (pb_zf (S.2.2 5)) := hA10
    have hA11 : pb_A w H (o + 11) 0 400 (pb_zf (S.2.2 6)) := hA11
    have hA12 : pb_A w H (o + 12) 0 625 (pb_nf (S.2.1 4)) := hA12
    have L10 : ∀ (n_ : Nat) (n : Nat) (T P : Nat → Nat) (H : Heap), ftot T = n_ → (pb_G w s_ H) → (MW w H o (mB (mB S 2 P) 3 T)) → (mF o H0 H) → (k < 26) → (∀ y, y < 26 → T y < 67108864) → (∀ i, i < k → T i = 0) → (∀ m, PCr c m T → PCr c (n + m) (S.2.1 3)) → ∀ (ls : Array Slot), lv_has ls 5 [(0, .ref (o)), (1, .int (iZ ((bI (c))))), (2, .int (iZ (((n : Nat) : Int)))), (3, .int (iZ (((k : Nat) : Int))))] → pb_V w.2.2.2 p_ l e_ (pb_rm 1 (0) (0)) s_ m_ ar_ bl_ me_ co_ H (0) (0) (pb_E w bl_ ar_ s_ (0) (0) (pb_qi (fun z H1 => ∃ (n : Nat) (P T : Nat → Nat), z = ((n : Nat) : Int) ∧ PCr c n (S.2.1 3) ∧ MW w H1 o (mB (mB S 2 P) 3 T) ∧ mF o H0 H1))) (F0 m_ 10 ls []) := by
      intro n_
      induction n_ using Nat.strongRecOn with
      | _ n_ ih10 =>
      intro n T P H hm_ hG hM hF hk2 hT hz_ hr_ ls hl
      have hM0 := hM; obtain ⟨hz, hO, hA1, hA2, hA3, hA4, hA5, hA6, hA7, hA8, hA9, hA10, hA11, hA12⟩ := hM0
      have hO : pb_O w H o 2 [.int (iZ ((S.1 0))), .int (iZ ((S.1 1))), .ref (o + 1), .ref (o + 2), .ref (o + 3), .ref (o + 4), .ref (o + 5), .ref (o + 6), .ref (o + 7), .ref (o + 8), .ref (o + 9), .ref (o + 10), .ref (o + 11), .ref (o + 12), .int (iZ ((S.1 2))), .int (iZ ((S.1 3)))] := hO
      have hA1 : pb_A w H (o + 1) 0 192 (pb_nf (S.2.1 0)) := hA1
      have hA2 : pb_A w H (o + 2) 0 24 (pb_nf (S.2.1 1)) := hA2
      have hA3 : pb_A w H (o + 3) 0 26 (pb_nf (P)) := hA3
      have hA4 : pb_A w H (o + 4) 0 26 (pb_nf (T)) := hA4
      have hA5 : pb_A w H (o + 5) 0 40 (pb_zf (S.2.2 0)) := hA5
      have hA6 : pb_A w H (o + 6) 0 40 (pb_zf (S.2.2 1)) := hA6
      have hA7 : pb_A w H (o + 7) 0 576 (pb_zf (S.2.2 2)) := hA7
      have hA8 : pb_A w H (o + 8) 0 1300 (pb_zf (S.2.2 3)) := hA8
      have hA9 : pb_A w H (o + 9) 0 1300 (pb_zf (S.2.2 4)) := hA9
      have hA10 : pb_A w H (o + 10) 0 400 (pb_zf (S.2.2 5)) := hA10
      have hA11 : pb_A w H (o + 11) 0 400 (pb_zf (S.2.2 6)) := hA11
      have hA12 : pb_A w H (o + 12) 0 625 (pb_nf (S.2.1 4)) := hA12
      have L51 : ∀ (n_ : Nat) (j : Nat) (P P2 : Nat → Nat) (H : Heap), 26 - j = n_ → (pb_G w s_ H) → (MW w H o (mB (mB S 2 P2) 3 ((pcT T P2 j)))) → (mF o H0 H) → (T k ≠ 0) → (j ≤ 26) → (FL c T (pcP T P k) P2) → ∀ (ls : Array Slot), lv_has ls 5 [(0, .ref (o)), (1, .int (iZ ((bI (c))))), (2, .int (iZ (((n : Nat) : Int)))), (3, .int (iZ (((k : Nat) : Int)))), (4, .int (iZ (((j : Nat) : Int))))] → pb_V w.2.2.2 p_ l e_ (pb_rm 1 (0) (0)) s_ m_ ar_ bl_ me_ co_ H (0) (0) (pb_E w bl_ ar_ s_ (0) (0) (pb_qi (fun z H1 => ∃ (n : Nat) (P T : Nat → Nat), z = ((n : Nat) : Int) ∧ PCr c n (S.2.1 3) ∧ MW w H1 o (mB (mB S 2 P) 3 T) ∧ mF o H0 H1))) (F0 m_ 51 ls []) := by
        intro n_
        induction n_ using Nat.strongRecOn with
        | _ n_ ih51 =>
        intro j P P2 H hm_ hG hM hF hne hj hFL ls hl
        have hM0 := hM; obtain ⟨hz, hO, hA1, hA2, hA3, hA4, hA5, hA6, hA7, hA8, hA9, hA10, hA11, hA12⟩ := hM0
        have hO : pb_O w H o 2 [.int (iZ ((S.1 0))), .int (iZ ((S.1 1))), .ref (o + 1), .ref (o + 2), .ref (o + 3), .ref (o + 4), .ref (o + 5), .ref (o + 6), .ref (o + 7), .ref (o + 8), .ref (o + 9), .ref (o + 10), .ref (o + 11), .ref (o + 12), .int (iZ ((S.1 2))), .int (iZ ((S.1 3)))] := hO
        have hA1 : pb_A w H (o + 1) 0 192 (pb_nf (S.2.1 0)) := hA1
        have hA2 : pb_A w H (o + 2) 0 24 (pb_nf (S.2.1 1)) := hA2
        have hA3 : pb_A w H (o + 3) 0 26 (pb_nf (P2)) := hA3
        have hA4 : pb_A w H (o + 4) 0 26 (pb_nf (pcT T P2 j)) := hA4
        have hA5 : pb_A w H (o + 5) 0 40 (pb_zf (S.2.2 0)) := hA5
        have hA6 : pb_A w H (o + 6) 0 40 (pb_zf (S.2.2 1)) := hA6
        have hA7 : pb_A w H (o + 7) 0 576 (pb_zf (S.2.2 2)) := hA7
        have hA8 : pb_A w H (o + 8) 0 1300 (pb_zf (S.2.2 3)) := hA8
        have hA9 : pb_A w H (o + 9) 0 1300 (pb_zf (S.2.2 4)) := hA9
        have hA10 : pb_A w H (o + 10) 0 400 (pb_zf (S.2.2 5)) := hA10
        have hA11 : pb_A w H (o + 11) 0 400 (pb_zf (S.2.2 6)) := hA11
        have hA12 : pb_A w H (o + 12) 0 625 (pb_nf (S.2.1 4)) := hA12
        refine pb_iload C dX3_pieces_51 (lv_at hl 4 rfl) ?_
        refine pb_bip C dX3_pieces_53 (by decide) ?_
        refine pb_icmp_ge C dX3_pieces_55 (x := ((j : Nat) : Int)) (y := 26) (tgt := 83) (by decide) (by omega) (by omega) (fun c55_ => ?_) (fun c55_ => ?_)
        · obtain rfl : j = 26 := by omega
          have hdec_ := pc_dec hT hk2 hne hFL
          refine pb_iinc C dX3_pieces_83 hl (j := 2) (x := (((n : Nat) : Int))) rfl (by decide) rfl fun ls hl => ?_
          have hl : lv_has ls 5 [(2, .int (iZ ((((n + 1) : Nat) : Int)))), (0, .ref (o)), (1, .int (iZ ((bI (c))))), (3, .int (iZ (((k : Nat) : Int)))), (4, .int (iZ (((26 : Nat) : Int))))] := hl
          refine pb_goto C dX3_pieces_86 (tgt := 10) (by decide) ?_
          exact pb_V.mono (by omega) (by omega) (ih10 _ (by omega) (n + 1) (pcT T P2 26) P2 H rfl hG hM hF (by omega) (pcT_lt hT) (pcT_z hk2 hz_) (pc_rec hk2 hz_ hne hFL hr_) ls (lv_sub hl [1, 2, 0, 3] rfl))
        · refine pb_aload_n C dX3_pieces_58 rfl (lv_at hl 0 rfl) ?_
          refine pb_get C in_X3 hO.r (ci := 2) rfl 5 (by decide) q1742 (fun _ h9 => h9) (v := .ref (o + 4)) rfl dX3_pieces_59 ?_
          refine pb_iload C dX3_pieces_62 (lv_at hl 4 rfl) ?_
          refine pb_dup2 C dX3_pieces_64 rfl rfl ?_
          refine pb_iald C hA4.b (i := ((j : Nat) : Int)) (v := .int (iZ ((((T j) : Nat) : Int)))) (by omega) (congrArg (fun n : Nat => Value.int (iZ (n : Int))) (if_neg (by omega))) dX3_pieces_65 ?_
          refine pb_aload_n C dX3_pieces_66 rfl (lv_at hl 0 rfl) ?_
          refine pb_get C in_X3 hO.r (ci := 2) rfl 4 (by decide) q1741 (fun _ h9 => h9) (v := .ref (o + 3)) rfl dX3_pieces_67 ?_
          refine pb_iload C dX3_pieces_70 (lv_at hl 4 rfl) ?_
          refine pb_iald C hA3.b (i := ((j : Nat) : Int)) (v := .int (iZ ((((P2 j) : Nat) : Int)))) (by omega) rfl dX3_pieces_72 ?_
          refine pb_ic C dX3_pieces_73 ?_
          refine pb_inot C dX3_pieces_74 (x := (((P2 j) : Nat) : Int)) ?_
          refine pb_iandn C dX3_pieces_75 (x := (T j)) (y := (P2 j)) ?_
          refine pb_iast C hA4 (i := ((j : Nat) : Int)) (by omega) (by omega) dX3_pieces_76 fun H1_ hu_ hA4 => ?_
          rw [pb_upN, Int.toNat_natCast, show va_up (pcT T P2 j) j (pb_dif (T j) (P2 j)) = pcT T P2 (j + 1) from mdR_step (fun i => pb_dif (T i) (P2 i)) T j rfl] at hA4
          have hG := hG.kept (hu_.z (by omega))
          have hO := hO.kept (hu_.2 _ (by omega))
          have hA1 := hA1.kept (hu_.2 _ (by omega))
          have hA2 := hA2.kept (hu_.2 _ (by omega))
          have hA3 := hA3.kept (hu_.2 _ (by omega))
          have hA5 := hA5.kept (hu_.2 _ (by omega))
          have hA6 := hA6.kept (hu_.2 _ (by omega))
          have hA7 := hA7.kept (hu_.2 _ (by omega))
          have hA8 := hA8.kept (hu_.2 _ (by omega))
          have hA9 := hA9.kept (hu_.2 _ (by omega))
          have hA10 := hA10.kept (hu_.2 _ (by omega))
          have hA11 := hA11.kept (hu_.2 _ (by omega))
          have hA12 := hA12.kept (hu_.2 _ (by omega))
          have hF := hF.up hu_ (by omega)
          refine pb_iinc C dX3_pieces_77 hl (j := 4) (x := (((j : Nat) : Int))) rfl (by decide) rfl fun ls hl => ?_
          have hl : lv_has ls 5 [(4, .int (iZ ((((j + 1) : Nat) : Int)))), (0, .ref (o)), (1, .int (iZ ((bI (c))))), (2, .int (iZ (((n : Nat) : Int)))), (3, .int (iZ (((k : Nat) : Int))))] := hl
          refine pb_goto C dX3_pieces_80 (tgt := 51) (by decide) ?_
          exact pb_V.mono (by omega) (by omega) (ih51 _ (by omega) (j + 1) P P2 H1_ rfl hG ⟨hz, hO, hA1, hA2, hA3, hA4, hA5, hA6, hA7, hA8, hA9, hA10, hA11, hA12⟩ hF hne (by omega) hFL ls (lv_sub hl [1, 2, 3, 4, 0] rfl))
      have hTk := hT k hk2
      refine pb_aload_n C dX3_pieces_10 rfl (lv_at hl 0 rfl) ?_
      refine pb_get C in_X3 hO.r (ci := 2) rfl 5 (by decide) q1742 (fun _ h9 => h9) (v := .ref (o + 4)) rfl dX3_pieces_11 ?_
      refine pb_iload_n C dX3_pieces_14 rfl (lv_at hl 3 rfl) ?_
      refine pb_iald C hA4.b (i := ((k : Nat) : Int)) (v := .int (iZ ((((T k) : Nat) : Int)))) (by omega) rfl dX3_pieces_15 ?_
      refine pb_if_eq C dX3_pieces_16 (x := (((T k) : Nat) : Int)) (tgt := 89) (by decide) (by omega) (fun c16_ => ?_) (fun c16_ => ?_)
      · refine pb_iinc C dX3_pieces_89 hl (j := 3) (x := (((k : Nat) : Int))) rfl (by decide) rfl fun ls hl => ?_
        have hl : lv_has ls 5 [(3, .int (iZ ((((k + 1) : Nat) : Int)))), (0, .ref (o)), (1, .int (iZ ((bI (c))))), (2, .int (iZ (((n : Nat) : Int))))] := hl
        refine pb_goto C dX3_pieces_92 (tgt := 4) (by decide) ?_
        exact pb_V.mono (by omega) (by omega) (ih4 _ (by omega) (k + 1) n T P H rfl hG hM hF (by omega) hT (lt_s hz_ (by omega)) hr_ ls (lv_sub hl [1, 2, 3, 0] rfl))
      · have hne : T k ≠ 0 := by omega
        refine pb_aload_n C dX3_pieces_19 rfl (lv_at hl 0 rfl) ?_
        refine pb_go_v (bc' := 0) (bs' := 0) (pb_runV (rest := []) C hG (met_X3_empties l o (mB (mB S 2 P) 3 T) hM) hO.r (ci := 2) rfl (lw_V q1908 q1910 qs37 q60 q1911) ⟨rfl, hdX3_empties⟩ rfl hl.1 rfl (Nat.le_of_ble_eq_true rfl) ⟨(Nat.le_of_ble_eq_true rfl), (Nat.le_of_ble_eq_true rfl)⟩ dX3_pieces_20) (by omega) (by omega) (fun H_ hp_ => ?_)
        obtain ⟨hM, hF2⟩ := hp_
        have hG := hG.kept (hF2.z hz)
        have hF := hF.tr hF2
        have hM0 := hM; obtain ⟨hz, hO, hA1, hA2, hA3, hA4, hA5, hA6, hA7, hA8, hA9, hA10, hA11, hA12⟩ := hM0
        have hO : pb_O w H_ o 2 [.int (iZ ((S.1 0))), .int (iZ ((S.1 1))), .ref (o + 1), .ref (o + 2), .ref (o + 3), .ref (o + 4), .ref (o + 5), .ref (o + 6), .ref (o + 7), .ref (o + 8), .ref (o + 9), .ref (o + 10), .ref (o + 11), .ref (o + 12), .int (iZ ((S.1 2))), .int (iZ ((S.1 3)))] := hO
        have hA1 : pb_A w H_ (o + 1) 0 192 (pb_nf (S.2.1 0)) := hA1
        have hA2 : pb_A w H_ (o + 2) 0 24 (pb_nf (S.2.1 1)) := hA2
        have hA3 : pb_A w H_ (o + 3) 0 26 (pb_nf (mdR (fun i => 0) P 26)) := hA3
        have hA4 : pb_A w H_ (o + 4) 0 26 (pb_nf (T)) := hA4
        have hA5 : pb_A w H_ (o + 5) 0 40 (pb_zf (S.2.2 0)) := hA5
        have hA6 : pb_A w H_ (o + 6) 0 40 (pb_zf (S.2.2 1)) := hA6
        have hA7 : pb_A w H_ (o + 7) 0 576 (pb_zf (S.2.2 2)) := hA7
        have hA8 : pb_A w H_ (o + 8) 0 1300 (pb_zf (S.2.2 3)) := hA8
        have hA9 : pb_A w H_ (o + 9) 0 1300 (pb_zf (S.2.2 4)) := hA9
        have hA10 : pb_A w H_ (o + 10) 0 400 (pb_zf (S.2.2 5)) := hA10
        have hA11 : pb_A w H_ (o + 11) 0 400 (pb_zf (S.2.2 6)) := hA11
        have hA12 : pb_A w H_ (o + 12) 0 625 (pb_nf (S.2.1 4)) := hA12
        refine pb_aload_n C dX3_pieces_23 rfl (lv_at hl 0 rfl) ?_
        refine pb_get C in_X3 hO.r (ci := 2) rfl 4 (by decide) q1741 (fun _ h9 => h9) (v := .ref (o + 3)) rfl dX3_pieces_24 ?_
        refine pb_iload_n C dX3_pieces_27 rfl (lv_at hl 3 rfl) ?_
        refine pb_aload_n C dX3_pieces_28 rfl (lv_at hl 0 rfl) ?_
        refine pb_get C in_X3 hO.r (ci := 2) rfl 5 (by decide) q1742 (fun _ h9 => h9) (v := .ref (o + 4)) rfl dX3_pieces_29 ?_
        refine pb_iload_n C dX3_pieces_32 rfl (lv_at hl 3 rfl) ?_
        refine pb_iald C hA4.b (i := ((k : Nat) : Int)) (v := .int (iZ ((((T k) : Nat) : Int)))) (by omega) rfl dX3_pieces_33 ?_
        refine pb_aload_n C dX3_pieces_34 rfl (lv_at hl 0 rfl) ?_
        refine pb_get C in_X3 hO.r (ci := 2) rfl 5 (by decide) q1742 (fun _ h9 => h9) (v := .ref (o + 4)) rfl dX3_pieces_35 ?_
        refine pb_iload_n C dX3_pieces_38 rfl (lv_at hl 3 rfl) ?_
        refine pb_iald C hA4.b (i := ((k : Nat) : Int)) (v := .int (iZ ((((T k) : Nat) : Int)))) (by omega) rfl dX3_pieces_39 ?_
        refine pb_ineg C dX3_pieces_40 ?_
        refine pb_eq (g2 := F0 m_ 41 ls [.int (iZ ((-1 - (((T k - 1) : Nat) : Int)))), .int (iZ ((((T k) : Nat) : Int))), .int (iZ (((k : Nat) : Int))), .ref (o + 3)]) (congrArg (fun z9 => F0 m_ 41 ls [.int (iZ z9), .int (iZ ((((T k) : Nat) : Int))), .int (iZ (((k : Nat) : Int))), .ref (o + 3)]) (show (-((((T k) : Nat) : Int))) = (-1 - (((T k - 1) : Nat) : Int)) from (by omega))) ?_
        refine pb_iandn C dX3_pieces_41 (x := (T k)) (y := (T k - 1)) ?_
        refine pb_iast C hA3 (i := ((k : Nat) : Int)) (by omega) (by omega) dX3_pieces_42 fun H2_ hu_ hA3 => ?_
        rw [pb_upN, Int.toNat_natCast, show va_up (mdR (fun i => 0) P 26) k (pb_dif (T k) (T k - 1)) = pcP T P k from rfl] at hA3
        have hG := hG.kept (hu_.z (by omega))
        have hO := hO.kept (hu_.2 _ (by omega))
        have hA1 := hA1.kept (hu_.2 _ (by omega))
        have hA2 := hA2.kept (hu_.2 _ (by omega))
        have hA4 := hA4.kept (hu_.2 _ (by omega))
        have hA5 := hA5.kept (hu_.2 _ (by omega))
        have hA6 := hA6.kept (hu_.2 _ (by omega))
        have hA7 := hA7.kept (hu_.2 _ (by omega))
        have hA8 := hA8.kept (hu_.2 _ (by omega))
        have hA9 := hA9.kept (hu_.2 _ (by omega))
        have hA10 := hA10.kept (hu_.2 _ (by omega))
        have hA11 := hA11.kept (hu_.2 _ (by omega))
        have hA12 := hA12.kept (hu_.2 _ (by omega))
        have hF := hF.up hu_ (by omega)
        refine pb_aload_n C dX3_pieces_43 rfl (lv_at hl 0 rfl) ?_
        refine pb_iload_n C dX3_pieces_44 rfl (lv_at hl 1 rfl) ?_
        refine pb_go_v (bc' := 0) (bs' := 0) (pb_runV (rest := []) C hG (met_X3_spreads l o (mB (mB S 2 ((pcP T P k))) 3 T) ⟨hz, hO, hA1, hA2, hA3, hA4, hA5, hA6, hA7, hA8, hA9, hA10, hA11, hA12⟩ c hT (pc_sub hne)) hO.r (ci := 2) rfl (lw_V q1912 q1914 qs38 q60 q1915) ⟨rfl, hdX3_spreads⟩ rfl hl.1 rfl (Nat.le_of_ble_eq_true rfl) ⟨(Nat.le_of_ble_eq_true rfl), (Nat.le_of_ble_eq_true rfl)⟩ dX3_pieces_45) (by omega) (by omega) (fun H_ hp_ => ?_)
        obtain ⟨P2, hFL, hM, hF2⟩ := hp_
        have hG := hG.kept (hF2.z hz)
        have hF := hF.tr hF2
        have hM0 := hM; obtain ⟨hz, hO, hA1, hA2, hA3, hA4, hA5, hA6, hA7, hA8, hA9, hA10, hA11, hA12⟩ := hM0
        have hO : pb_O w H_ o 2 [.int (iZ ((S.1 0))), .int (iZ ((S.1 1))), .ref (o + 1), .ref (o + 2), .ref (o + 3), .ref (o + 4), .ref (o + 5), .ref (o + 6), .ref (o + 7), .ref (o + 8), .ref (o + 9), .ref (o + 10), .ref (o + 11), .ref (o + 12), .int (iZ ((S.1 2))), .int (iZ ((S.1 3)))] := hO
        have hA1 : pb_A w H_ (o + 1) 0 192 (pb_nf (S.2.1 0)) := hA1
        have hA2 : pb_A w H_ (o + 2) 0 24 (pb_nf (S.2.1 1)) := hA2
        have hA3 : pb_A w H_ (o + 3) 0 26 (pb_nf (P2)) := hA3
        have hA4 : pb_A w H_ (o + 4) 0 26 (pb_nf (T)) := hA4
        have hA5 : pb_A w H_ (o + 5) 0 40 (pb_zf (S.2.2 0)) := hA5
        have hA6 : pb_A w H_ (o + 6) 0 40 (pb_zf (S.2.2 1)) := hA6
        have hA7 : pb_A w H_ (o + 7) 0 576 (pb_zf (S.2.2 2)) := hA7
        have hA8 : pb_A w H_ (o + 8) 0 1300 (pb_zf (S.2.2 3)) := hA8
        have hA9 : pb_A w H_ (o + 9) 0 1300 (pb_zf (S.2.2 4)) := hA9
        have hA10 : pb_A w H_ (o + 10) 0 400 (pb_zf (S.2.2 5)) := hA10
        have hA11 : pb_A w H_ (o + 11) 0 400 (pb_zf (S.2.2 6)) := hA11
        have hA12 : pb_A w H_ (o + 12) 0 625 (pb_nf (S.2.1 4)) := hA12
        refine pb_ic C dX3_pieces_48 ?_
        refine pb_istore C dX3_pieces_49 hl (by decide) rfl fun ls hl => ?_
        have hl : lv_has ls 5 [(4, .int (iZ (0))), (0, .ref (o)), (1, .int (iZ ((bI (c))))), (2, .int (iZ (((n : Nat) : Int)))), (3, .int (iZ (((k : Nat) : Int))))] := hl
        exact pb_V.mono (by omega) (by omega) (L51 _ 0 P P2 H_ rfl hG ⟨hz, hO, hA1, hA2, hA3, hA4, hA5, hA6, hA7, hA8, hA9, hA10, hA11, hA12⟩ hF hne (by omega) hFL ls (lv_sub hl [1, 2, 3, 4, 0] rfl))
    refine pb_iload_n C dX3_pieces_4 rfl (lv_at hl 3 rfl) ?_
    refine pb_bip C dX3_pieces_5 (by decide) ?_
    refine pb_icmp_ge C dX3_pieces_7 (x := ((k : Nat) : Int)) (y := 26) (tgt := 95) (by decide) (by omega) (by omega) (fun c7_ => ?_) (fun c7_ => ?_)
    · have hT26 : ∀ y, y < 26 → T y = 0 := fun y hy => hz_ y (by omega)
      refine pb_iload_n C dX3_pieces_95 rfl (lv_at hl 2 rfl) ?_
      exact pb_iret C dX3_pieces_96 (⟨_, rfl, n, P, T, rfl, hr_ 0 hT26, hM, hF⟩)
    · exact pb_V.mono (by omega) (by omega) (L10 _ n T P H rfl hG hM hF (by omega) hT hz_ hr_ ls (lv_sub hl [0, 1, 2, 3] rfl))
  refine pb_ic C dX3_pieces_0 ?_
  refine pb_istore_n C dX3_pieces_1 rfl hl (by decide) rfl fun ls hl => ?_
  have hl : lv_has ls 5 [(2, .int (iZ (0))), (0, .ref (o)), (1, .int (iZ ((bI (c)))))] := hl
  refine pb_ic C dX3_pieces_2 ?_
  refine pb_istore_n C dX3_pieces_3 rfl hl (by decide) rfl fun ls hl => ?_
  have hl : lv_has ls 5 [(3, .int (iZ (0))), (2, .int (iZ (0))), (0, .ref (o)), (1, .int (iZ ((bI (c)))))] := hl
  exact pb_V.mono (by omega) (by omega) (L4 _ 0 0 (S.2.1 3) (S.2.1 2) H0 rfl hG (by rw [show mB (mB S 2 (S.2.1 2)) 3 (S.2.1 3) = S from by rw [mB_self]; exact mB_self S 3]; exact hM) hF (by omega) hT0 (fun i hi => absurd hi (by omega)) (fun m h => by rw [Nat.zero_add]; exact h) ls (lv_sub hl [2, 3, 1, 0] rfl))

set_option maxHeartbeats 1000000 in
theorem met_X3_partCount {w : pb_W} (l : Launch) {H0 : Heap} (o : Nat) (S : mS) (hM : MW w H0 o S) (s : Nat) (hs : s < 8) (hb : mok S) : pb_M w l yX3_partCount cX3_partCount 2 (some .int) 4 (0) (0) [.ref (o), .int (iZ (((s : Nat) : Int)))] H0 (pb_qi (fun z H1 => ∃ (n : Nat) (P T : Nat → Nat), z = ((n : Nat) : Int) ∧ PCr false n (mdR (fun i => gins (mg S s) i) (S.2.1 3) 26) ∧ MW w H1 o (mB (mB (mB (mI S 0 0) 3 (mdR (fun i => gins (mg S s) i) (S.2.1 3) 26)) 2 P) 3 T) ∧ mF o H0 H1)) := by
  refine pb_of (by decide +kernel) (Nat.le_of_ble_eq_true rfl) ?_
  intro p_ e_ s_ m_ ar_ bl_ me_ co_ ls C hh hG hl
  have hl : lv_has ls 2 [(0, .ref (o)), (1, .int (iZ (((s : Nat) : Int))))] := hl
  have hM0 := hM; obtain ⟨hz, hO, hA1, hA2, hA3, hA4, hA5, hA6, hA7, hA8, hA9, hA10, hA11, hA12⟩ := hM0
  have hF : mF o H0 H0 := mF.rf
  refine pb_aload_n C dX3_partCount_0 rfl (lv_at hl 0 rfl) ?_
  refine pb_iload_n C dX3_partCount_1 rfl (lv_at hl 1 rfl) ?_
  refine pb_go_i (bc' := 0) (bs' := 0) (pb_runV (rest := []) C hG (met_X3_looks l o S hM s hs) hO.r (ci := 2) rfl (lw_V q1937 q1939 qs40 q60 q1940) ⟨rfl, hdX3_looks⟩ rfl hl.1 rfl (Nat.le_of_ble_eq_true rfl) ⟨(Nat.le_of_ble_eq_true rfl), (Nat.le_of_ble_eq_true rfl)⟩ dX3_partCount_2) (by omega) (by omega) (fun z_ H_ hp_ => ?_)
  obtain ⟨rfl, hM, hF⟩ := hp_
  have hG := hG.kept (hF.z hz)
  have hO := hM.2.1
  refine pb_if_ne C dX3_partCount_5 (x := 1) (tgt := 10) (by decide) (by omega) (fun c5_ => ?_) (fun c5_ => ?_)
  · refine pb_aload_n C dX3_partCount_10 rfl (lv_at hl 0 rfl) ?_
    refine pb_iload_n C dX3_partCount_11 rfl (lv_at hl 1 rfl) ?_
    refine pb_go_v (bc' := 0) (bs' := 0) (pb_runV (rest := []) C hG (met_X3_inside l o (mI S 0 0) hM s hs hb) hO.r (ci := 2) rfl (lw_V q1921 q1923 qs39 q60 q1924) ⟨rfl, hdX3_inside⟩ rfl hl.1 rfl (Nat.le_of_ble_eq_true rfl) ⟨(Nat.le_of_ble_eq_true rfl), (Nat.le_of_ble_eq_true rfl)⟩ dX3_partCount_12) (by omega) (by omega) (fun H_ hp_ => ?_)
    obtain ⟨hM, hF2⟩ := hp_
    have hG := hG.kept (hF2.z hz)
    have hF := hF.tr hF2
    have hO := hM.2.1
    refine pb_aload_n C dX3_partCount_15 rfl (lv_at hl 0 rfl) ?_
    refine pb_ic C dX3_partCount_16 ?_
    refine pb_go_i (bc' := 0) (bs' := 0) (pb_runV (rest := []) C hG (met_X3_pieces l o (mB (mI S 0 0) 3 (mdR (fun i => gins (mg S s) i) (S.2.1 3) 26)) hM false (fun y hy => by rw [show (mB (mI S 0 0) 3 (mdR (fun i => gins (mg S s) i) (S.2.1 3) 26)).2.1 3 y = mdR (fun i => gins (mg S s) i) (S.2.1 3) 26 y from rfl, mdR, if_pos hy]; exact gins_lt (mg_ok hb hs) y)) hO.r (ci := 2) rfl (lw_V q1967 q1969 qs41 q60 q1970) ⟨rfl, hdX3_pieces⟩ rfl hl.1 rfl (Nat.le_of_ble_eq_true rfl) ⟨(Nat.le_of_ble_eq_true rfl), (Nat.le_of_ble_eq_true rfl)⟩ dX3_partCount_17) (by omega) (by omega) (fun z_ H_ hp_ => ?_)
    obtain ⟨n, P, T, rfl, hPC, hM, hF2⟩ := hp_
    have hF := hF.tr hF2
    exact pb_iret C dX3_partCount_20 (⟨_, rfl, n, P, T, rfl, hPC, hM, hF⟩)
  · exact absurd c5_ (by decide)

set_option maxHeartbeats 1000000 in
theorem met_X3_partCount_1 {w : pb_W} (l : Launch) {H0 : Heap} (o : Nat) (S : mS) (hM : MW w H0 o S) (s : Int) (hsr : -2147483648 ≤ s ∧ s ≤ 2147483647) (hs : ¬ (0 ≤ s ∧ s ≤ 7)) : pb_M w l yX3_partCount cX3_partCount 2 (some .int) 4 (0) (0) [.ref (o), .int (iZ (s))] H0 (pb_qi (fun z H1 => z = 0 ∧ MW w H1 o (mI S 0 1) ∧ mF o H0 H1)) := by
  refine pb_of (by decide +kernel) (Nat.le_of_ble_eq_true rfl) ?_
  intro p_ e_ s_ m_ ar_ bl_ me_ co_ ls C hh hG hl
  have hl : lv_has ls 2 [(0, .ref (o)), (1, .int (iZ (s)))] := hl
  have hM0 := hM; obtain ⟨hz, hO, hA1, hA2, hA3, hA4, hA5, hA6, hA7, hA8, hA9, hA10, hA11, hA12⟩ := hM0
  have hF : mF o H0 H0 := mF.rf
  refine pb_aload_n C dX3_partCount_0 rfl (lv_at hl 0 rfl) ?_
  refine pb_iload_n C dX3_partCount_1 rfl (lv_at hl 1 rfl) ?_
  refine pb_go_i (bc' := 0) (bs' := 0) (pb_runV (rest := []) C hG (met_X3_looks_1 l o S hM s hsr hs) hO.r (ci := 2) rfl (lw_V q1937 q1939 qs40 q60 q1940) ⟨rfl, hdX3_looks⟩ rfl hl.1 rfl (Nat.le_of_ble_eq_true rfl) ⟨(Nat.le_of_ble_eq_true rfl), (Nat.le_of_ble_eq_true rfl)⟩ dX3_partCount_2) (by omega) (by omega) (fun z_ H_ hp_ => ?_)
  obtain ⟨rfl, hM, hF⟩ := hp_
  refine pb_if_ne C dX3_partCount_5 (x := 0) (tgt := 10) (by decide) (by omega) (fun c5_ => ?_) (fun c5_ => ?_)
  · exact absurd c5_ (by decide)
  · refine pb_ic C dX3_partCount_8 ?_
    exact pb_iret C dX3_partCount_9 (⟨_, rfl, rfl, hM, hF⟩)

set_option maxHeartbeats 1000000 in
theorem met_X3_partCountByCells {w : pb_W} (l : Launch) {H0 : Heap} (o : Nat) (S : mS) (hM : MW w H0 o S) (s : Nat) (hs : s < 8) (hb : mok S) : pb_M w l yX3_partCountByCells cX3_partCountByCells 2 (some .int) 5 (0) (0) [.ref (o), .int (iZ (((s : Nat) : Int)))] H0 (pb_qi (fun z H1 => ∃ (n : Nat) (P T : Nat → Nat), z = ((n : Nat) : Int) ∧ PCr false n (mdR (fun i => gins (mg S s) i) (S.2.1 3) 26) ∧ MW w H1 o (mB (mB (mB (mI S 0 0) 3 (mdR (fun i => gins (mg S s) i) (S.2.1 3) 26)) 2 P) 3 T) ∧ mF o H0 H1)) := by
  refine pb_of (by decide +kernel) (Nat.le_of_ble_eq_true rfl) ?_
  intro p_ e_ s_ m_ ar_ bl_ me_ co_ ls C hh hG hl
  have hl : lv_has ls 2 [(0, .ref (o)), (1, .int (iZ (((s : Nat) : Int))))] := hl
  have hM0 := hM; obtain ⟨hz, hO, hA1, hA2, hA3, hA4, hA5, hA6, hA7, hA8, hA9, hA10, hA11, hA12⟩ := hM0
  have hF : mF o H0 H0 := mF.rf
  refine pb_aload_n C dX3_partCountByCells_0 rfl (lv_at hl 0 rfl) ?_
  refine pb_iload_n C dX3_partCountByCells_1 rfl (lv_at hl 1 rfl) ?_
  refine pb_go_i (bc' := 0) (bs' := 0) (pb_runV (rest := []) C hG (met_X3_partCount l o S hM s hs hb) hO.r (ci := 2) rfl (lw_V q1975 q1964 q1965 q60 q1966) ⟨rfl, hdX3_partCount⟩ rfl hl.1 rfl (Nat.le_of_ble_eq_true rfl) ⟨(Nat.le_of_ble_eq_true rfl), (Nat.le_of_ble_eq_true rfl)⟩ dX3_partCountByCells_2) (by omega) (by omega) (fun z_ H_ hp_ => ?_)
  exact pb_iret C dX3_partCountByCells_5 (⟨_, rfl, hp_⟩)

set_option maxHeartbeats 1000000 in
theorem met_X3_partCountByCells_1 {w : pb_W} (l : Launch) {H0 : Heap} (o : Nat) (S : mS) (hM : MW w H0 o S) (s : Int) (hsr : -2147483648 ≤ s ∧ s ≤ 2147483647) (hs : ¬ (0 ≤ s ∧ s ≤ 7)) : pb_M w l yX3_partCountByCells cX3_partCountByCells 2 (some .int) 5 (0) (0) [.ref (o), .int (iZ (s))] H0 (pb_qi (fun z H1 => z = 0 ∧ MW w H1 o (mI S 0 1) ∧ mF o H0 H1)) := by
  refine pb_of (by decide +kernel) (Nat.le_of_ble_eq_true rfl) ?_
  intro p_ e_ s_ m_ ar_ bl_ me_ co_ ls C hh hG hl
  have hl : lv_has ls 2 [(0, .ref (o)), (1, .int (iZ (s)))] := hl
  have hM0 := hM; obtain ⟨hz, hO, hA1, hA2, hA3, hA4, hA5, hA6, hA7, hA8, hA9, hA10, hA11, hA12⟩ := hM0
  have hF : mF o H0 H0 := mF.rf
  refine pb_aload_n C dX3_partCountByCells_0 rfl (lv_at hl 0 rfl) ?_
  refine pb_iload_n C dX3_partCountByCells_1 rfl (lv_at hl 1 rfl) ?_
  refine pb_go_i (bc' := 0) (bs' := 0) (pb_runV (rest := []) C hG (met_X3_partCount_1 l o S hM s hsr hs) hO.r (ci := 2) rfl (lw_V q1975 q1964 q1965 q60 q1966) ⟨rfl, hdX3_partCount⟩ rfl hl.1 rfl (Nat.le_of_ble_eq_true rfl) ⟨(Nat.le_of_ble_eq_true rfl), (Nat.le_of_ble_eq_true rfl)⟩ dX3_partCountByCells_2) (by omega) (by omega) (fun z_ H_ hp_ => ?_)
  obtain ⟨rfl, hM, hF⟩ := hp_
  exact pb_iret C dX3_partCountByCells_5 (⟨_, rfl, rfl, hM, hF⟩)

set_option maxHeartbeats 1000000 in
theorem met_X3_holeCount {w : pb_W} (l : Launch) {H0 : Heap} (o : Nat) (S : mS) (hM : MW w H0 o S) (s : Nat) (hs : s < 8) (hb : mok S) : pb_M w l yX3_holeCount cX3_holeCount 2 (some .int) 4 (0) (0) [.ref (o), .int (iZ (((s : Nat) : Int)))] H0 (pb_qi (fun z H1 => ∃ (n : Nat) (P T : Nat → Nat), z = ((n : Nat) : Int) - 1 ∧ PCr true n (mdR (fun i => gout (mg S s) i) (S.2.1 3) 26) ∧ MW w H1 o (mB (mB (mB (mI S 0 0) 3 (mdR (fun i => gout (mg S s) i) (S.2.1 3) 26)) 2 P) 3 T) ∧ mF o H0 H1)) := by
  refine pb_of (by decide +kernel) (Nat.le_of_ble_eq_true rfl) ?_
  intro p_ e_ s_ m_ ar_ bl_ me_ co_ ls C hh hG hl
  have hl : lv_has ls 2 [(0, .ref (o)), (1, .int (iZ (((s : Nat) : Int))))] := hl
  have hM0 := hM; obtain ⟨hz, hO, hA1, hA2, hA3, hA4, hA5, hA6, hA7, hA8, hA9, hA10, hA11, hA12⟩ := hM0
  have hF : mF o H0 H0 := mF.rf
  refine pb_aload_n C dX3_holeCount_0 rfl (lv_at hl 0 rfl) ?_
  refine pb_iload_n C dX3_holeCount_1 rfl (lv_at hl 1 rfl) ?_
  refine pb_go_i (bc' := 0) (bs' := 0) (pb_runV (rest := []) C hG (met_X3_looks l o S hM s hs) hO.r (ci := 2) rfl (lw_V q1937 q1939 qs40 q60 q1940) ⟨rfl, hdX3_looks⟩ rfl hl.1 rfl (Nat.le_of_ble_eq_true rfl) ⟨(Nat.le_of_ble_eq_true rfl), (Nat.le_of_ble_eq_true rfl)⟩ dX3_holeCount_2) (by omega) (by omega) (fun z_ H_ hp_ => ?_)
  obtain ⟨rfl, hM, hF⟩ := hp_
  have hG := hG.kept (hF.z hz)
  have hO := hM.2.1
  refine pb_if_ne C dX3_holeCount_5 (x := 1) (tgt := 10) (by decide) (by omega) (fun c5_ => ?_) (fun c5_ => ?_)
  · refine pb_aload_n C dX3_holeCount_10 rfl (lv_at hl 0 rfl) ?_
    refine pb_iload_n C dX3_holeCount_11 rfl (lv_at hl 1 rfl) ?_
    refine pb_go_v (bc' := 0) (bs' := 0) (pb_runV (rest := []) C hG (met_X3_outside l o (mI S 0 0) hM s hs hb) hO.r (ci := 2) rfl (lw_V q1903 q1905 qs36 q60 q1906) ⟨rfl, hdX3_outside⟩ rfl hl.1 rfl (Nat.le_of_ble_eq_true rfl) ⟨(Nat.le_of_ble_eq_true rfl), (Nat.le_of_ble_eq_true rfl)⟩ dX3_holeCount_12) (by omega) (by omega) (fun H_ hp_ => ?_)
    obtain ⟨hM, hF2⟩ := hp_
    have hG := hG.kept (hF2.z hz)
    have hF := hF.tr hF2
    have hO := hM.2.1
    refine pb_aload_n C dX3_holeCount_15 rfl (lv_at hl 0 rfl) ?_
    refine pb_ic C dX3_holeCount_16 ?_
    refine pb_go_i (bc' := 0) (bs' := 0) (pb_runV (rest := []) C hG (met_X3_pieces l o (mB (mI S 0 0) 3 (mdR (fun i => gout (mg S s) i) (S.2.1 3) 26)) hM true (fun y hy => by rw [show (mB (mI S 0 0) 3 (mdR (fun i => gout (mg S s) i) (S.2.1 3) 26)).2.1 3 y = mdR (fun i => gout (mg S s) i) (S.2.1 3) 26 y from rfl, mdR, if_pos hy]; exact gout_lt (mg S s) y)) hO.r (ci := 2) rfl (lw_V q1967 q1969 qs41 q60 q1970) ⟨rfl, hdX3_pieces⟩ rfl hl.1 rfl (Nat.le_of_ble_eq_true rfl) ⟨(Nat.le_of_ble_eq_true rfl), (Nat.le_of_ble_eq_true rfl)⟩ dX3_holeCount_17) (by omega) (by omega) (fun z_ H_ hp_ => ?_)
    obtain ⟨n, P, T, rfl, hPC, hM, hF2⟩ := hp_
    have hF := hF.tr hF2
    refine pb_ic C dX3_holeCount_20 ?_
    refine pb_isub C dX3_holeCount_21 ?_
    exact pb_iret C dX3_holeCount_22 (⟨_, rfl, n, P, T, rfl, hPC, hM, hF⟩)
  · exact absurd c5_ (by decide)

set_option maxHeartbeats 1000000 in
theorem met_X3_holeCount_1 {w : pb_W} (l : Launch) {H0 : Heap} (o : Nat) (S : mS) (hM : MW w H0 o S) (s : Int) (hsr : -2147483648 ≤ s ∧ s ≤ 2147483647) (hs : ¬ (0 ≤ s ∧ s ≤ 7)) : pb_M w l yX3_holeCount cX3_holeCount 2 (some .int) 4 (0) (0) [.ref (o), .int (iZ (s))] H0 (pb_qi (fun z H1 => z = 0 ∧ MW w H1 o (mI S 0 1) ∧ mF o H0 H1)) := by
  refine pb_of (by decide +kernel) (Nat.le_of_ble_eq_true rfl) ?_
  intro p_ e_ s_ m_ ar_ bl_ me_ co_ ls C hh hG hl
  have hl : lv_has ls 2 [(0, .ref (o)), (1, .int (iZ (s)))] := hl
  have hM0 := hM; obtain ⟨hz, hO, hA1, hA2, hA3, hA4, hA5, hA6, hA7, hA8, hA9, hA10, hA11, hA12⟩ := hM0
  have hF : mF o H0 H0 := mF.rf
  refine pb_aload_n C dX3_holeCount_0 rfl (lv_at hl 0 rfl) ?_
  refine pb_iload_n C dX3_holeCount_1 rfl (lv_at hl 1 rfl) ?_
  refine pb_go_i (bc' := 0) (bs' := 0) (pb_runV (rest := []) C hG (met_X3_looks_1 l o S hM s hsr hs) hO.r (ci := 2) rfl (lw_V q1937 q1939 qs40 q60 q1940) ⟨rfl, hdX3_looks⟩ rfl hl.1 rfl (Nat.le_of_ble_eq_true rfl) ⟨(Nat.le_of_ble_eq_true rfl), (Nat.le_of_ble_eq_true rfl)⟩ dX3_holeCount_2) (by omega) (by omega) (fun z_ H_ hp_ => ?_)
  obtain ⟨rfl, hM, hF⟩ := hp_
  refine pb_if_ne C dX3_holeCount_5 (x := 0) (tgt := 10) (by decide) (by omega) (fun c5_ => ?_) (fun c5_ => ?_)
  · exact absurd c5_ (by decide)
  · refine pb_ic C dX3_holeCount_8 ?_
    exact pb_iret C dX3_holeCount_9 (⟨_, rfl, rfl, hM, hF⟩)

set_option maxHeartbeats 1000000 in
theorem met_X3_holeCountByCells {w : pb_W} (l : Launch) {H0 : Heap} (o : Nat) (S : mS) (hM : MW w H0 o S) (s : Nat) (hs : s < 8) (hb : mok S) : pb_M w l yX3_holeCountByCells cX3_holeCountByCells 2 (some .int) 5 (0) (0) [.ref (o), .int (iZ (((s : Nat) : Int)))] H0 (pb_qi (fun z H1 => ∃ (n : Nat) (P T : Nat → Nat), z = ((n : Nat) : Int) - 1 ∧ PCr true n (mdR (fun i => gout (mg S s) i) (S.2.1 3) 26) ∧ MW w H1 o (mB (mB (mB (mI S 0 0) 3 (mdR (fun i => gout (mg S s) i) (S.2.1 3) 26)) 2 P) 3 T) ∧ mF o H0 H1)) := by
  refine pb_of (by decide +kernel) (Nat.le_of_ble_eq_true rfl) ?_
  intro p_ e_ s_ m_ ar_ bl_ me_ co_ ls C hh hG hl
  have hl : lv_has ls 2 [(0, .ref (o)), (1, .int (iZ (((s : Nat) : Int))))] := hl
  have hM0 := hM; obtain ⟨hz, hO, hA1, hA2, hA3, hA4, hA5, hA6, hA7, hA8, hA9, hA10, hA11, hA12⟩ := hM0
  have hF : mF o H0 H0 := mF.rf
  refine pb_aload_n C dX3_holeCountByCells_0 rfl (lv_at hl 0 rfl) ?_
  refine pb_iload_n C dX3_holeCountByCells_1 rfl (lv_at hl 1 rfl) ?_
  refine pb_go_i (bc' := 0) (bs' := 0) (pb_runV (rest := []) C hG (met_X3_holeCount l o S hM s hs hb) hO.r (ci := 2) rfl (lw_V q1984 q1977 q1978 q60 q1979) ⟨rfl, hdX3_holeCount⟩ rfl hl.1 rfl (Nat.le_of_ble_eq_true rfl) ⟨(Nat.le_of_ble_eq_true rfl), (Nat.le_of_ble_eq_true rfl)⟩ dX3_holeCountByCells_2) (by omega) (by omega) (fun z_ H_ hp_ => ?_)
  exact pb_iret C dX3_holeCountByCells_5 (⟨_, rfl, hp_⟩)

set_option maxHeartbeats 1000000 in
theorem met_X3_holeCountByCells_1 {w : pb_W} (l : Launch) {H0 : Heap} (o : Nat) (S : mS) (hM : MW w H0 o S) (s : Int) (hsr : -2147483648 ≤ s ∧ s ≤ 2147483647) (hs : ¬ (0 ≤ s ∧ s ≤ 7)) : pb_M w l yX3_holeCountByCells cX3_holeCountByCells 2 (some .int) 5 (0) (0) [.ref (o), .int (iZ (s))] H0 (pb_qi (fun z H1 => z = 0 ∧ MW w H1 o (mI S 0 1) ∧ mF o H0 H1)) := by
  refine pb_of (by decide +kernel) (Nat.le_of_ble_eq_true rfl) ?_
  intro p_ e_ s_ m_ ar_ bl_ me_ co_ ls C hh hG hl
  have hl : lv_has ls 2 [(0, .ref (o)), (1, .int (iZ (s)))] := hl
  have hM0 := hM; obtain ⟨hz, hO, hA1, hA2, hA3, hA4, hA5, hA6, hA7, hA8, hA9, hA10, hA11, hA12⟩ := hM0
  have hF : mF o H0 H0 := mF.rf
  refine pb_aload_n C dX3_holeCountByCells_0 rfl (lv_at hl 0 rfl) ?_
  refine pb_iload_n C dX3_holeCountByCells_1 rfl (lv_at hl 1 rfl) ?_
  refine pb_go_i (bc' := 0) (bs' := 0) (pb_runV (rest := []) C hG (met_X3_holeCount_1 l o S hM s hsr hs) hO.r (ci := 2) rfl (lw_V q1984 q1977 q1978 q60 q1979) ⟨rfl, hdX3_holeCount⟩ rfl hl.1 rfl (Nat.le_of_ble_eq_true rfl) ⟨(Nat.le_of_ble_eq_true rfl), (Nat.le_of_ble_eq_true rfl)⟩ dX3_holeCountByCells_2) (by omega) (by omega) (fun z_ H_ hp_ => ?_)
  obtain ⟨rfl, hM, hF⟩ := hp_
  exact pb_iret C dX3_holeCountByCells_5 (⟨_, rfl, rfl, hM, hF⟩)

set_option maxHeartbeats 1000000 in
theorem met_X3_fillHoles {w : pb_W} (l : Launch) {H0 : Heap} (o : Nat) (S : mS) (hM : MW w H0 o S) (s t : Nat) (hs : s < 8) (ht : t < 8) (hb : mok S) : pb_M w l yX3_fillHoles cX3_fillHoles 4 (some .int) 6 (0) (0) [.ref (o), .int (iZ (((s : Nat) : Int))), .int (iZ (((t : Nat) : Int)))] H0 (pb_qi (fun z H1 => ∃ P, FL true (mdR (fun i => gout (mg S s) i) (S.2.1 3) 26) (va_up (mdR (fun i => 0) (S.2.1 2) 26) 0 1) P ∧ z = ((cnt (mg (mB (mB (mB (mB (mI S 0 0) 3 (mdR (fun i => gout (mg S s) i) (S.2.1 3) 26)) 2 P) 1 (mdR (fun i => pb_dif 16777215 (P (i + 1) >>> 1)) (S.2.1 1) 24)) 0 (rowsF (mB (mB (mB (mI S 0 0) 3 (mdR (fun i => gout (mg S s) i) (S.2.1 3) 26)) 2 P) 1 (mdR (fun i => pb_dif 16777215 (P (i + 1) >>> 1)) (S.2.1 1) 24)) t 0 24 (mdR (fun i => pb_dif 16777215 (P (i + 1) >>> 1)) (S.2.1 1) 24))) t) : Nat) : Int) ∧ MW w H1 o (mB (mB (mB (mB (mI S 0 0) 3 (mdR (fun i => gout (mg S s) i) (S.2.1 3) 26)) 2 P) 1 (mdR (fun i => pb_dif 16777215 (P (i + 1) >>> 1)) (S.2.1 1) 24)) 0 (rowsF (mB (mB (mB (mI S 0 0) 3 (mdR (fun i => gout (mg S s) i) (S.2.1 3) 26)) 2 P) 1 (mdR (fun i => pb_dif 16777215 (P (i + 1) >>> 1)) (S.2.1 1) 24)) t 0 24 (mdR (fun i => pb_dif 16777215 (P (i + 1) >>> 1)) (S.2.1 1) 24))) ∧ mF o H0 H1)) := by
  refine pb_of (by decide +kernel) (Nat.le_of_ble_eq_true rfl) ?_
  intro p_ e_ s_ m_ ar_ bl_ me_ co_ ls C hh hG hl
  have hl : lv_has ls 4 [(0, .ref (o)), (1, .int (iZ (((s : Nat) : Int)))), (2, .int (iZ (((t : Nat) : Int))))] := hl
  have hM0 := hM; obtain ⟨hz, hO, hA1, hA2, hA3, hA4, hA5, hA6, hA7, hA8, hA9, hA10, hA11, hA12⟩ := hM0
  have hF : mF o H0 H0 := mF.rf
  have L55 : ∀ (n_ : Nat) (k : Nat) (P : Nat → Nat) (H : Heap), 24 - k = n_ → (pb_G w s_ H) → (MW w H o (mB (mB (mB (mI S 0 0) 3 (mdR (fun i => gout (mg S s) i) (S.2.1 3) 26)) 2 P) 1 (mdR (fun i => pb_dif 16777215 (P (i + 1) >>> 1)) (S.2.1 1) k))) → (mF o H0 H) → (k ≤ 24) → (FL true (mdR (fun i => gout (mg S s) i) (S.2.1 3) 26) (va_up (mdR (fun i => 0) (S.2.1 2) 26) 0 1) P) → ∀ (ls : Array Slot), lv_has ls 4 [(0, .ref (o)), (2, .int (iZ (((t : Nat) : Int)))), (3, .int (iZ (((k : Nat) : Int))))] → pb_V w.2.2.2 p_ l e_ (pb_rm 6 (0) (0)) s_ m_ ar_ bl_ me_ co_ H (0) (0) (pb_E w bl_ ar_ s_ (0) (0) (pb_qi (fun z H1 => ∃ P, FL true (mdR (fun i => gout (mg S s) i) (S.2.1 3) 26) (va_up (mdR (fun i => 0) (S.2.1 2) 26) 0 1) P ∧ z = ((cnt (mg (mB (mB (mB (mB (mI S 0 0) 3 (mdR (fun i => gout (mg S s) i) (S.2.1 3) 26)) 2 P) 1 (mdR (fun i => pb_dif 16777215 (P (i + 1) >>> 1)) (S.2.1 1) 24)) 0 (rowsF (mB (mB (mB (mI S 0 0) 3 (mdR (fun i => gout (mg S s) i) (S.2.1 3) 26)) 2 P) 1 (mdR (fun i => pb_dif 16777215 (P (i + 1) >>> 1)) (S.2.1 1) 24)) t 0 24 (mdR (fun i => pb_dif 16777215 (P (i + 1) >>> 1)) (S.2.1 1) 24))) t) : Nat) : Int) ∧ MW w H1 o (mB (mB (mB (mB (mI S 0 0) 3 (mdR (fun i => gout (mg S s) i) (S.2.1 3) 26)) 2 P) 1 (mdR (fun i => pb_dif 16777215 (P (i + 1) >>> 1)) (S.2.1 1) 24)) 0 (rowsF (mB (mB (mB (mI S 0 0) 3 (mdR (fun i => gout (mg S s) i) (S.2.1 3) 26)) 2 P) 1 (mdR (fun i => pb_dif 16777215 (P (i + 1) >>> 1)) (S.2.1 1) 24)) t 0 24 (mdR (fun i => pb_dif 16777215 (P (i + 1) >>> 1)) (S.2.1 1) 24))) ∧ mF o H0 H1))) (F0 m_ 55 ls []) := by
    intro n_
    induction n_ using Nat.strongRecOn with
    | _ n_ ih55 =>
    intro k P H hm_ hG hM hF hk hFL ls hl
    have hM0 := hM; obtain ⟨hz, hO, hA1, hA2, hA3, hA4, hA5, hA6, hA7, hA8, hA9, hA10, hA11, hA12⟩ := hM0
    have hO : pb_O w H o 2 [.int (iZ ((0))), .int (iZ ((S.1 1))), .ref (o + 1), .ref (o + 2), .ref (o + 3), .ref (o + 4), .ref (o + 5), .ref (o + 6), .ref (o + 7), .ref (o + 8), .ref (o + 9), .ref (o + 10), .ref (o + 11), .ref (o + 12), .int (iZ ((S.1 2))), .int (iZ ((S.1 3)))] := hO
    have hA1 : pb_A w H (o + 1) 0 192 (pb_nf (S.2.1 0)) := hA1
    have hA2 : pb_A w H (o + 2) 0 24 (pb_nf (mdR (fun i => pb_dif 16777215 (P (i + 1) >>> 1)) (S.2.1 1) k)) := hA2
    have hA3 : pb_A w H (o + 3) 0 26 (pb_nf (P)) := hA3
    have hA4 : pb_A w H (o + 4) 0 26 (pb_nf (mdR (fun i => gout (mg S s) i) (S.2.1 3) 26)) := hA4
    have hA5 : pb_A w H (o + 5) 0 40 (pb_zf (S.2.2 0)) := hA5
    have hA6 : pb_A w H (o + 6) 0 40 (pb_zf (S.2.2 1)) := hA6
    have hA7 : pb_A w H (o + 7) 0 576 (pb_zf (S.2.2 2)) := hA7
    have hA8 : pb_A w H (o + 8) 0 1300 (pb_zf (S.2.2 3)) := hA8
    have hA9 : pb_A w H (o + 9) 0 1300 (pb_zf (S.2.2 4)) := hA9
    have hA10 : pb_A w H (o + 10) 0 400 (pb_zf (S.2.2 5)) := hA10
    have hA11 : pb_A w H (o + 11) 0 400 (pb_zf (S.2.2 6)) := hA11
    have hA12 : pb_A w H (o + 12) 0 625 (pb_nf (S.2.1 4)) := hA12
    refine pb_iload_n C dX3_fillHoles_55 rfl (lv_at hl 2 rfl) ?_
    refine pb_bip C dX3_fillHoles_56 (by decide) ?_
    refine pb_icmp_ge C dX3_fillHoles_58 (x := ((k : Nat) : Int)) (y := 24) (tgt := 88) (by decide) (by omega) (by omega) (fun c58_ => ?_) (fun c58_ => ?_)
    · obtain rfl : k = 24 := by omega
      refine pb_aload_n C dX3_fillHoles_88 rfl (lv_at hl 0 rfl) ?_
      refine pb_iload_n C dX3_fillHoles_89 rfl (lv_at hl 1 rfl) ?_
      refine pb_go_i (bc' := 0) (bs' := 0) (pb_runV (rest := []) C hG (met_X3_puts l o (mB (mB (mB (mI S 0 0) 3 (mdR (fun i => gout (mg S s) i) (S.2.1 3) 26)) 2 P) 1 (mdR (fun i => pb_dif 16777215 (P (i + 1) >>> 1)) (S.2.1 1) 24)) hM t ht hb (fun y hy => by rw [show (mB (mB (mB (mI S 0 0) 3 (mdR (fun i => gout (mg S s) i) (S.2.1 3) 26)) 2 P) 1 (mdR (fun i => pb_dif 16777215 (P (i + 1) >>> 1)) (S.2.1 1) 24)).2.1 1 y = (mdR (fun i => pb_dif 16777215 (P (i + 1) >>> 1)) (S.2.1 1) 24) y from rfl, mdR, if_pos hy]; exact dif_lt24 (by decide))) hO.r (ci := 2) rfl (lw_V q1851 q1853 qs31 q60 q1854) ⟨rfl, hdX3_puts⟩ rfl hl.1 rfl (Nat.le_of_ble_eq_true rfl) ⟨(Nat.le_of_ble_eq_true rfl), (Nat.le_of_ble_eq_true rfl)⟩ dX3_fillHoles_90) (by omega) (by omega) (fun z_ H_ hp_ => ?_)
      obtain ⟨hz_, hM, hF2⟩ := hp_
      have hF := hF.tr hF2
      exact pb_iret C dX3_fillHoles_93 (⟨_, rfl, P, hFL, hz_, hM, hF⟩)
    · have hPl := fh_lt hFL (y := k + 1) (by omega)
      refine pb_aload_n C dX3_fillHoles_61 rfl (lv_at hl 0 rfl) ?_
      refine pb_get C in_X3 hO.r (ci := 2) rfl 3 (by decide) q1740 (fun _ h9 => h9) (v := .ref (o + 2)) rfl dX3_fillHoles_62 ?_
      refine pb_iload_n C dX3_fillHoles_65 rfl (lv_at hl 2 rfl) ?_
      refine pb_aload_n C dX3_fillHoles_66 rfl (lv_at hl 0 rfl) ?_
      refine pb_get C in_X3 hO.r (ci := 2) rfl 4 (by decide) q1741 (fun _ h9 => h9) (v := .ref (o + 3)) rfl dX3_fillHoles_67 ?_
      refine pb_iload_n C dX3_fillHoles_70 rfl (lv_at hl 2 rfl) ?_
      refine pb_ic C dX3_fillHoles_71 ?_
      refine pb_iadd C dX3_fillHoles_72 ?_
      refine pb_iald C hA3.b (i := (((k + 1) : Nat) : Int)) (v := .int (iZ ((((P ((k + 1))) : Nat) : Int)))) (by omega) rfl dX3_fillHoles_73 ?_
      refine pb_ic C dX3_fillHoles_74 ?_
      refine pb_ishr C dX3_fillHoles_75 (x := (P ((k + 1)))) (y := 1) (by omega) (by omega) ?_
      refine pb_ic C dX3_fillHoles_76 ?_
      refine pb_inot C dX3_fillHoles_77 (x := ((((P ((k + 1))) >>> 1) : Nat) : Int)) ?_
      refine pb_ldc C dX3_fillHoles_78 q1916 (16777215) (by decide +kernel) ?_
      refine pb_iandn2 C dX3_fillHoles_80 (x := 16777215) (y := ((P ((k + 1))) >>> 1)) ?_
      refine pb_iast C hA2 (i := ((k : Nat) : Int)) (by omega) (by omega) dX3_fillHoles_81 fun H1_ hu_ hA2 => ?_
      rw [pb_upN, Int.toNat_natCast, mdR_step (fun i => pb_dif 16777215 (P (i + 1) >>> 1)) _ k (v := (pb_dif 16777215 (((P ((k + 1))) >>> 1)))) rfl] at hA2
      have hG := hG.kept (hu_.z (by omega))
      have hO := hO.kept (hu_.2 _ (by omega))
      have hA1 := hA1.kept (hu_.2 _ (by omega))
      have hA3 := hA3.kept (hu_.2 _ (by omega))
      have hA4 := hA4.kept (hu_.2 _ (by omega))
      have hA5 := hA5.kept (hu_.2 _ (by omega))
      have hA6 := hA6.kept (hu_.2 _ (by omega))
      have hA7 := hA7.kept (hu_.2 _ (by omega))
      have hA8 := hA8.kept (hu_.2 _ (by omega))
      have hA9 := hA9.kept (hu_.2 _ (by omega))
      have hA10 := hA10.kept (hu_.2 _ (by omega))
      have hA11 := hA11.kept (hu_.2 _ (by omega))
      have hA12 := hA12.kept (hu_.2 _ (by omega))
      have hF := hF.up hu_ (by omega)
      refine pb_iinc C dX3_fillHoles_82 hl (j := 2) (x := (((k : Nat) : Int))) rfl (by decide) rfl fun ls hl => ?_
      have hl : lv_has ls 4 [(3, .int (iZ ((((k + 1) : Nat) : Int)))), (0, .ref (o)), (2, .int (iZ (((t : Nat) : Int))))] := hl
      refine pb_goto C dX3_fillHoles_85 (tgt := 55) (by decide) ?_
      exact pb_V.mono (by omega) (by omega) (ih55 _ (by omega) (k + 1) P H1_ rfl hG ⟨hz, hO, hA1, hA2, hA3, hA4, hA5, hA6, hA7, hA8, hA9, hA10, hA11, hA12⟩ hF (by omega) hFL ls (lv_sub hl [1, 2, 0] rfl))
  refine pb_aload_n C dX3_fillHoles_0 rfl (lv_at hl 0 rfl) ?_
  refine pb_iload_n C dX3_fillHoles_1 rfl (lv_at hl 1 rfl) ?_
  refine pb_go_x (bc' := 0) (bs' := 0) (pb_runS (rest := [.ref (o)]) C hG (met_X3_isSheet l (((s : Nat) : Int)) (by omega)) (lw_S q1794 q1795 q60 q1796) hdX3_isSheet rfl hl.1 rfl (Nat.le_of_ble_eq_true rfl) ⟨(Nat.le_of_ble_eq_true rfl), (Nat.le_of_ble_eq_true rfl)⟩ dX3_fillHoles_2) (by omega) (by omega) ?_
  refine pb_ifB_eq C dX3_fillHoles_5 (tgt := 15) (by decide) (fun c5_ => ?_) (fun c5_ => ?_)
  · have c5_ := of_decide_eq_false c5_
    omega
  · have c5_ := of_decide_eq_true c5_
    refine pb_iload_n C dX3_fillHoles_8 rfl (lv_at hl 2 rfl) ?_
    refine pb_go_x (bc' := 0) (bs' := 0) (pb_runS (rest := [.ref (o)]) C hG (met_X3_isSheet l (((t : Nat) : Int)) (by omega)) (lw_S q1794 q1795 q60 q1796) hdX3_isSheet rfl hl.1 rfl (Nat.le_of_ble_eq_true rfl) ⟨(Nat.le_of_ble_eq_true rfl), (Nat.le_of_ble_eq_true rfl)⟩ dX3_fillHoles_9) (by omega) (by omega) ?_
    refine pb_ifB_ne C dX3_fillHoles_12 (tgt := 19) (by decide) (fun c12_ => ?_) (fun c12_ => ?_)
    · have c12_ := of_decide_eq_true c12_
      refine pb_ic C dX3_fillHoles_19 ?_
      refine pb_put C in_X3 tyX3 tyX3_ok nmX3 hO (ci := 2) rfl 0 (by decide) q1737 (fun _ h9 => h9) rfl (v := .int (iZ (0))) rfl rfl (Nat.le_of_ble_eq_true rfl) (by omega) dX3_fillHoles_20 fun H2_ hu_ hO => ?_
      have hO : pb_O w H2_ (o) 2 [.int (iZ (0)), .int (iZ ((S.1 1))), .ref (o + 1), .ref (o + 2), .ref (o + 3), .ref (o + 4), .ref (o + 5), .ref (o + 6), .ref (o + 7), .ref (o + 8), .ref (o + 9), .ref (o + 10), .ref (o + 11), .ref (o + 12), .int (iZ ((S.1 2))), .int (iZ ((S.1 3)))] := hO
      have hG := hG.kept (hu_.z (by omega))
      have hA1 := hA1.kept (hu_.2 _ (by omega))
      have hA2 := hA2.kept (hu_.2 _ (by omega))
      have hA3 := hA3.kept (hu_.2 _ (by omega))
      have hA4 := hA4.kept (hu_.2 _ (by omega))
      have hA5 := hA5.kept (hu_.2 _ (by omega))
      have hA6 := hA6.kept (hu_.2 _ (by omega))
      have hA7 := hA7.kept (hu_.2 _ (by omega))
      have hA8 := hA8.kept (hu_.2 _ (by omega))
      have hA9 := hA9.kept (hu_.2 _ (by omega))
      have hA10 := hA10.kept (hu_.2 _ (by omega))
      have hA11 := hA11.kept (hu_.2 _ (by omega))
      have hA12 := hA12.kept (hu_.2 _ (by omega))
      have hF := hF.up hu_ (by omega)
      refine pb_aload_n C dX3_fillHoles_23 rfl (lv_at hl 0 rfl) ?_
      refine pb_get C in_X3 hO.r (ci := 2) rfl 0 (by decide) q1737 (fun _ h9 => h9) (v := .int (iZ (0))) rfl dX3_fillHoles_24 ?_
      refine pb_if_eq C dX3_fillHoles_27 (x := 0) (tgt := 32) (by decide) (by omega) (fun c27_ => ?_) (fun c27_ => ?_)
      · refine pb_aload_n C dX3_fillHoles_32 rfl (lv_at hl 0 rfl) ?_
        refine pb_iload_n C dX3_fillHoles_33 rfl (lv_at hl 1 rfl) ?_
        refine pb_go_v (bc' := 0) (bs' := 0) (pb_runV (rest := []) C hG (met_X3_outside l o (mI S 0 0) ⟨hz, hO, hA1, hA2, hA3, hA4, hA5, hA6, hA7, hA8, hA9, hA10, hA11, hA12⟩ s hs hb) hO.r (ci := 2) rfl (lw_V q1903 q1905 qs36 q60 q1906) ⟨rfl, hdX3_outside⟩ rfl hl.1 rfl (Nat.le_of_ble_eq_true rfl) ⟨(Nat.le_of_ble_eq_true rfl), (Nat.le_of_ble_eq_true rfl)⟩ dX3_fillHoles_34) (by omega) (by omega) (fun H_ hp_ => ?_)
        obtain ⟨hM, hF2⟩ := hp_
        have hG := hG.kept (hF2.z hz)
        have hF := hF.tr hF2
        have hM0 := hM; obtain ⟨hz, hO, hA1, hA2, hA3, hA4, hA5, hA6, hA7, hA8, hA9, hA10, hA11, hA12⟩ := hM0
        have hO : pb_O w H_ o 2 [.int (iZ ((0))), .int (iZ ((S.1 1))), .ref (o + 1), .ref (o + 2), .ref (o + 3), .ref (o + 4), .ref (o + 5), .ref (o + 6), .ref (o + 7), .ref (o + 8), .ref (o + 9), .ref (o + 10), .ref (o + 11), .ref (o + 12), .int (iZ ((S.1 2))), .int (iZ ((S.1 3)))] := hO
        have hA1 : pb_A w H_ (o + 1) 0 192 (pb_nf (S.2.1 0)) := hA1
        have hA2 : pb_A w H_ (o + 2) 0 24 (pb_nf (S.2.1 1)) := hA2
        have hA3 : pb_A w H_ (o + 3) 0 26 (pb_nf (S.2.1 2)) := hA3
        have hA4 : pb_A w H_ (o + 4) 0 26 (pb_nf (mdR (fun i => gout (mg S s) i) (S.2.1 3) 26)) := hA4
        have hA5 : pb_A w H_ (o + 5) 0 40 (pb_zf (S.2.2 0)) := hA5
        have hA6 : pb_A w H_ (o + 6) 0 40 (pb_zf (S.2.2 1)) := hA6
        have hA7 : pb_A w H_ (o + 7) 0 576 (pb_zf (S.2.2 2)) := hA7
        have hA8 : pb_A w H_ (o + 8) 0 1300 (pb_zf (S.2.2 3)) := hA8
        have hA9 : pb_A w H_ (o + 9) 0 1300 (pb_zf (S.2.2 4)) := hA9
        have hA10 : pb_A w H_ (o + 10) 0 400 (pb_zf (S.2.2 5)) := hA10
        have hA11 : pb_A w H_ (o + 11) 0 400 (pb_zf (S.2.2 6)) := hA11
        have hA12 : pb_A w H_ (o + 12) 0 625 (pb_nf (S.2.1 4)) := hA12
        refine pb_aload_n C dX3_fillHoles_37 rfl (lv_at hl 0 rfl) ?_
        refine pb_go_v (bc' := 0) (bs' := 0) (pb_runV (rest := []) C hG (met_X3_empties l o (mB (mI S 0 0) 3 (mdR (fun i => gout (mg S s) i) (S.2.1 3) 26)) hM) hO.r (ci := 2) rfl (lw_V q1908 q1910 qs37 q60 q1911) ⟨rfl, hdX3_empties⟩ rfl hl.1 rfl (Nat.le_of_ble_eq_true rfl) ⟨(Nat.le_of_ble_eq_true rfl), (Nat.le_of_ble_eq_true rfl)⟩ dX3_fillHoles_38) (by omega) (by omega) (fun H_ hp_ => ?_)
        obtain ⟨hM, hF2⟩ := hp_
        have hG := hG.kept (hF2.z hz)
        have hF := hF.tr hF2
        have hM0 := hM; obtain ⟨hz, hO, hA1, hA2, hA3, hA4, hA5, hA6, hA7, hA8, hA9, hA10, hA11, hA12⟩ := hM0
        have hO : pb_O w H_ o 2 [.int (iZ ((0))), .int (iZ ((S.1 1))), .ref (o + 1), .ref (o + 2), .ref (o + 3), .ref (o + 4), .ref (o + 5), .ref (o + 6), .ref (o + 7), .ref (o + 8), .ref (o + 9), .ref (o + 10), .ref (o + 11), .ref (o + 12), .int (iZ ((S.1 2))), .int (iZ ((S.1 3)))] := hO
        have hA1 : pb_A w H_ (o + 1) 0 192 (pb_nf (S.2.1 0)) := hA1
        have hA2 : pb_A w H_ (o + 2) 0 24 (pb_nf (S.2.1 1)) := hA2
        have hA3 : pb_A w H_ (o + 3) 0 26 (pb_nf (mdR (fun i => 0) (S.2.1 2) 26)) := hA3
        have hA4 : pb_A w H_ (o + 4) 0 26 (pb_nf (mdR (fun i => gout (mg S s) i) (S.2.1 3) 26)) := hA4
        have hA5 : pb_A w H_ (o + 5) 0 40 (pb_zf (S.2.2 0)) := hA5
        have hA6 : pb_A w H_ (o + 6) 0 40 (pb_zf (S.2.2 1)) := hA6
        have hA7 : pb_A w H_ (o + 7) 0 576 (pb_zf (S.2.2 2)) := hA7
        have hA8 : pb_A w H_ (o + 8) 0 1300 (pb_zf (S.2.2 3)) := hA8
        have hA9 : pb_A w H_ (o + 9) 0 1300 (pb_zf (S.2.2 4)) := hA9
        have hA10 : pb_A w H_ (o + 10) 0 400 (pb_zf (S.2.2 5)) := hA10
        have hA11 : pb_A w H_ (o + 11) 0 400 (pb_zf (S.2.2 6)) := hA11
        have hA12 : pb_A w H_ (o + 12) 0 625 (pb_nf (S.2.1 4)) := hA12
        refine pb_aload_n C dX3_fillHoles_41 rfl (lv_at hl 0 rfl) ?_
        refine pb_get C in_X3 hO.r (ci := 2) rfl 4 (by decide) q1741 (fun _ h9 => h9) (v := .ref (o + 3)) rfl dX3_fillHoles_42 ?_
        refine pb_ic C dX3_fillHoles_45 ?_
        refine pb_ic C dX3_fillHoles_46 ?_
        refine pb_iast C hA3 (i := 0) (by omega) (by omega) dX3_fillHoles_47 fun H3_ hu_ hA3 => ?_
        rw [show (Value.int (iZ 1)) = Value.int (iZ ((1 : Nat) : Int)) from rfl, pb_upN, show (0 : Int).toNat = 0 from rfl] at hA3
        have hG := hG.kept (hu_.z (by omega))
        have hO := hO.kept (hu_.2 _ (by omega))
        have hA1 := hA1.kept (hu_.2 _ (by omega))
        have hA2 := hA2.kept (hu_.2 _ (by omega))
        have hA4 := hA4.kept (hu_.2 _ (by omega))
        have hA5 := hA5.kept (hu_.2 _ (by omega))
        have hA6 := hA6.kept (hu_.2 _ (by omega))
        have hA7 := hA7.kept (hu_.2 _ (by omega))
        have hA8 := hA8.kept (hu_.2 _ (by omega))
        have hA9 := hA9.kept (hu_.2 _ (by omega))
        have hA10 := hA10.kept (hu_.2 _ (by omega))
        have hA11 := hA11.kept (hu_.2 _ (by omega))
        have hA12 := hA12.kept (hu_.2 _ (by omega))
        have hF := hF.up hu_ (by omega)
        refine pb_aload_n C dX3_fillHoles_48 rfl (lv_at hl 0 rfl) ?_
        refine pb_ic C dX3_fillHoles_49 ?_
        refine pb_go_v (bc' := 0) (bs' := 0) (pb_runV (rest := []) C hG (met_X3_spreads l o (mB (mB (mI S 0 0) 3 (mdR (fun i => gout (mg S s) i) (S.2.1 3) 26)) 2 (va_up (mdR (fun i => 0) (S.2.1 2) 26) 0 1)) ⟨hz, hO, hA1, hA2, hA3, hA4, hA5, hA6, hA7, hA8, hA9, hA10, hA11, hA12⟩ true (fun y hy => by rw [show (mB (mB (mI S 0 0) 3 (mdR (fun i => gout (mg S s) i) (S.2.1 3) 26)) 2 (va_up (mdR (fun i => 0) (S.2.1 2) 26) 0 1)).2.1 3 y = (mdR (fun i => gout (mg S s) i) (S.2.1 3) 26) y from rfl, mdR, if_pos hy]; exact gout_lt _ y) (fh_sub (mg S s) _ _)) hO.r (ci := 2) rfl (lw_V q1912 q1914 qs38 q60 q1915) ⟨rfl, hdX3_spreads⟩ rfl hl.1 rfl (Nat.le_of_ble_eq_true rfl) ⟨(Nat.le_of_ble_eq_true rfl), (Nat.le_of_ble_eq_true rfl)⟩ dX3_fillHoles_50) (by omega) (by omega) (fun H_ hp_ => ?_)
        obtain ⟨P, hFL, hM, hF2⟩ := hp_
        have hG := hG.kept (hF2.z hz)
        have hF := hF.tr hF2
        have hM0 := hM; obtain ⟨hz, hO, hA1, hA2, hA3, hA4, hA5, hA6, hA7, hA8, hA9, hA10, hA11, hA12⟩ := hM0
        have hO : pb_O w H_ o 2 [.int (iZ ((0))), .int (iZ ((S.1 1))), .ref (o + 1), .ref (o + 2), .ref (o + 3), .ref (o + 4), .ref (o + 5), .ref (o + 6), .ref (o + 7), .ref (o + 8), .ref (o + 9), .ref (o + 10), .ref (o + 11), .ref (o + 12), .int (iZ ((S.1 2))), .int (iZ ((S.1 3)))] := hO
        have hA1 : pb_A w H_ (o + 1) 0 192 (pb_nf (S.2.1 0)) := hA1
        have hA2 : pb_A w H_ (o + 2) 0 24 (pb_nf (S.2.1 1)) := hA2
        have hA3 : pb_A w H_ (o + 3) 0 26 (pb_nf (P)) := hA3
        have hA4 : pb_A w H_ (o + 4) 0 26 (pb_nf (mdR (fun i => gout (mg S s) i) (S.2.1 3) 26)) := hA4
        have hA5 : pb_A w H_ (o + 5) 0 40 (pb_zf (S.2.2 0)) := hA5
        have hA6 : pb_A w H_ (o + 6) 0 40 (pb_zf (S.2.2 1)) := hA6
        have hA7 : pb_A w H_ (o + 7) 0 576 (pb_zf (S.2.2 2)) := hA7
        have hA8 : pb_A w H_ (o + 8) 0 1300 (pb_zf (S.2.2 3)) := hA8
        have hA9 : pb_A w H_ (o + 9) 0 1300 (pb_zf (S.2.2 4)) := hA9
        have hA10 : pb_A w H_ (o + 10) 0 400 (pb_zf (S.2.2 5)) := hA10
        have hA11 : pb_A w H_ (o + 11) 0 400 (pb_zf (S.2.2 6)) := hA11
        have hA12 : pb_A w H_ (o + 12) 0 625 (pb_nf (S.2.1 4)) := hA12
        refine pb_ic C dX3_fillHoles_53 ?_
        refine pb_istore_n C dX3_fillHoles_54 rfl hl (by decide) rfl fun ls hl => ?_
        have hl : lv_has ls 4 [(3, .int (iZ (0))), (0, .ref (o)), (1, .int (iZ (((s : Nat) : Int)))), (2, .int (iZ (((t : Nat) : Int))))] := hl
        exact pb_V.mono (by omega) (by omega) (L55 _ 0 P H_ rfl hG (by rw [mdR_0]; exact ⟨hz, hO, hA1, hA2, hA3, hA4, hA5, hA6, hA7, hA8, hA9, hA10, hA11, hA12⟩) hF (by omega) hFL ls (lv_sub hl [1, 3, 0] rfl))
      · exact absurd c27_ (by decide)
    · have c12_ := of_decide_eq_false c12_
      omega

set_option maxHeartbeats 1000000 in
theorem met_X3_fillHoles_1 {w : pb_W} (l : Launch) {H0 : Heap} (o : Nat) (S : mS) (hM : MW w H0 o S) (s t : Int) (hsr : -2147483648 ≤ s ∧ s ≤ 2147483647) (htr : -2147483648 ≤ t ∧ t ≤ 2147483647)  (hn : ¬ ((0 ≤ s ∧ s ≤ 7) ∧ 0 ≤ t ∧ t ≤ 7)) : pb_M w l yX3_fillHoles cX3_fillHoles 4 (some .int) 6 (0) (0) [.ref (o), .int (iZ (s)), .int (iZ (t))] H0 (pb_qi (fun z H1 => z = 0 ∧ MW w H1 o (mI S 0 1) ∧ mF o H0 H1)) := by
  refine pb_of (by decide +kernel) (Nat.le_of_ble_eq_true rfl) ?_
  intro p_ e_ s_ m_ ar_ bl_ me_ co_ ls C hh hG hl
  have hl : lv_has ls 4 [(0, .ref (o)), (1, .int (iZ (s))), (2, .int (iZ (t)))] := hl
  have hM0 := hM; obtain ⟨hz, hO, hA1, hA2, hA3, hA4, hA5, hA6, hA7, hA8, hA9, hA10, hA11, hA12⟩ := hM0
  have hF : mF o H0 H0 := mF.rf
  refine pb_aload_n C dX3_fillHoles_0 rfl (lv_at hl 0 rfl) ?_
  refine pb_iload_n C dX3_fillHoles_1 rfl (lv_at hl 1 rfl) ?_
  refine pb_go_x (bc' := 0) (bs' := 0) (pb_runS (rest := [.ref (o)]) C hG (met_X3_isSheet l s (by omega)) (lw_S q1794 q1795 q60 q1796) hdX3_isSheet rfl hl.1 rfl (Nat.le_of_ble_eq_true rfl) ⟨(Nat.le_of_ble_eq_true rfl), (Nat.le_of_ble_eq_true rfl)⟩ dX3_fillHoles_2) (by omega) (by omega) ?_
  refine pb_ifB_eq C dX3_fillHoles_5 (tgt := 15) (by decide) (fun c5_ => ?_) (fun c5_ => ?_)
  · have c5_ := of_decide_eq_false c5_
    refine pb_ic C dX3_fillHoles_15 ?_
    refine pb_goto C dX3_fillHoles_16 (tgt := 20) (by decide) ?_
    refine pb_put C in_X3 tyX3 tyX3_ok nmX3 hO (ci := 2) rfl 0 (by decide) q1737 (fun _ h9 => h9) rfl (v := .int (iZ (1))) rfl rfl (Nat.le_of_ble_eq_true rfl) (by omega) dX3_fillHoles_20 fun H1_ hu_ hO => ?_
    have hO : pb_O w H1_ (o) 2 [.int (iZ (1)), .int (iZ ((S.1 1))), .ref (o + 1), .ref (o + 2), .ref (o + 3), .ref (o + 4), .ref (o + 5), .ref (o + 6), .ref (o + 7), .ref (o + 8), .ref (o + 9), .ref (o + 10), .ref (o + 11), .ref (o + 12), .int (iZ ((S.1 2))), .int (iZ ((S.1 3)))] := hO
    have hG := hG.kept (hu_.z (by omega))
    have hA1 := hA1.kept (hu_.2 _ (by omega))
    have hA2 := hA2.kept (hu_.2 _ (by omega))
    have hA3 := hA3.kept (hu_.2 _ (by omega))
    have hA4 := hA4.kept (hu_.2 _ (by omega))
    have hA5 := hA5.kept (hu_.2 _ (by omega))
    have hA6 := hA6.kept (hu_.2 _ (by omega))
    have hA7 := hA7.kept (hu_.2 _ (by omega))
    have hA8 := hA8.kept (hu_.2 _ (by omega))
    have hA9 := hA9.kept (hu_.2 _ (by omega))
    have hA10 := hA10.kept (hu_.2 _ (by omega))
    have hA11 := hA11.kept (hu_.2 _ (by omega))
    have hA12 := hA12.kept (hu_.2 _ (by omega))
    have hF := hF.up hu_ (by omega)
    refine pb_aload_n C dX3_fillHoles_23 rfl (lv_at hl 0 rfl) ?_
    refine pb_get C in_X3 hO.r (ci := 2) rfl 0 (by decide) q1737 (fun _ h9 => h9) (v := .int (iZ (1))) rfl dX3_fillHoles_24 ?_
    refine pb_if_eq C dX3_fillHoles_27 (x := 1) (tgt := 32) (by decide) (by omega) (fun c27_ => ?_) (fun c27_ => ?_)
    · exact absurd c27_ (by decide)
    · refine pb_ic C dX3_fillHoles_30 ?_
      exact pb_iret C dX3_fillHoles_31 (⟨_, rfl, rfl, ⟨hz, hO, hA1, hA2, hA3, hA4, hA5, hA6, hA7, hA8, hA9, hA10, hA11, hA12⟩, hF⟩)
  · have c5_ := of_decide_eq_true c5_
    refine pb_iload_n C dX3_fillHoles_8 rfl (lv_at hl 2 rfl) ?_
    refine pb_go_x (bc' := 0) (bs' := 0) (pb_runS (rest := [.ref (o)]) C hG (met_X3_isSheet l t (by omega)) (lw_S q1794 q1795 q60 q1796) hdX3_isSheet rfl hl.1 rfl (Nat.le_of_ble_eq_true rfl) ⟨(Nat.le_of_ble_eq_true rfl), (Nat.le_of_ble_eq_true rfl)⟩ dX3_fillHoles_9) (by omega) (by omega) ?_
    refine pb_ifB_ne C dX3_fillHoles_12 (tgt := 19) (by decide) (fun c12_ => ?_) (fun c12_ => ?_)
    · have c12_ := of_decide_eq_true c12_
      omega
    · have c12_ := of_decide_eq_false c12_
      refine pb_ic C dX3_fillHoles_15 ?_
      refine pb_goto C dX3_fillHoles_16 (tgt := 20) (by decide) ?_
      refine pb_put C in_X3 tyX3 tyX3_ok nmX3 hO (ci := 2) rfl 0 (by decide) q1737 (fun _ h9 => h9) rfl (v := .int (iZ (1))) rfl rfl (Nat.le_of_ble_eq_true rfl) (by omega) dX3_fillHoles_20 fun H2_ hu_ hO => ?_
      have hO : pb_O w H2_ (o) 2 [.int (iZ (1)), .int (iZ ((S.1 1))), .ref (o + 1), .ref (o + 2), .ref (o + 3), .ref (o + 4), .ref (o + 5), .ref (o + 6), .ref (o + 7), .ref (o + 8), .ref (o + 9), .ref (o + 10), .ref (o + 11), .ref (o + 12), .int (iZ ((S.1 2))), .int (iZ ((S.1 3)))] := hO
      have hG := hG.kept (hu_.z (by omega))
      have hA1 := hA1.kept (hu_.2 _ (by omega))
      have hA2 := hA2.kept (hu_.2 _ (by omega))
      have hA3 := hA3.kept (hu_.2 _ (by omega))
      have hA4 := hA4.kept (hu_.2 _ (by omega))
      have hA5 := hA5.kept (hu_.2 _ (by omega))
      have hA6 := hA6.kept (hu_.2 _ (by omega))
      have hA7 := hA7.kept (hu_.2 _ (by omega))
      have hA8 := hA8.kept (hu_.2 _ (by omega))
      have hA9 := hA9.kept (hu_.2 _ (by omega))
      have hA10 := hA10.kept (hu_.2 _ (by omega))
      have hA11 := hA11.kept (hu_.2 _ (by omega))
      have hA12 := hA12.kept (hu_.2 _ (by omega))
      have hF := hF.up hu_ (by omega)
      refine pb_aload_n C dX3_fillHoles_23 rfl (lv_at hl 0 rfl) ?_
      refine pb_get C in_X3 hO.r (ci := 2) rfl 0 (by decide) q1737 (fun _ h9 => h9) (v := .int (iZ (1))) rfl dX3_fillHoles_24 ?_
      refine pb_if_eq C dX3_fillHoles_27 (x := 1) (tgt := 32) (by decide) (by omega) (fun c27_ => ?_) (fun c27_ => ?_)
      · exact absurd c27_ (by decide)
      · refine pb_ic C dX3_fillHoles_30 ?_
        exact pb_iret C dX3_fillHoles_31 (⟨_, rfl, rfl, ⟨hz, hO, hA1, hA2, hA3, hA4, hA5, hA6, hA7, hA8, hA9, hA10, hA11, hA12⟩, hF⟩)

set_option maxHeartbeats 1000000 in
theorem met_X3_keepPart {w : pb_W} (l : Launch) {H0 : Heap} (o : Nat) (S : mS) (hM : MW w H0 o S) (s t : Nat) (hs : s < 8) (ht : t < 8) (hb : mok S) (x y : Nat) (hx : x < 24) (hy : y < 24) (hc : (mg S s y).testBit x = true) : pb_M w l yX3_keepPart cX3_keepPart 6 (some .int) 6 (0) (0) [.ref (o), .int (iZ (((s : Nat) : Int))), .int (iZ (((x : Nat) : Int))), .int (iZ (((y : Nat) : Int))), .int (iZ (((t : Nat) : Int)))] H0 (pb_qi (fun z H1 => ∃ P, FL false (mdR (fun i => gins (mg S s) i) (S.2.1 3) 26) (va_up (mdR (fun i => 0) (S.2.1 2) 26) (y + 1) (2 <<< x)) P ∧ z = ((cnt (mg (mB (mB (mB (mB (mI S 0 0) 3 (mdR (fun i => gins (mg S s) i) (S.2.1 3) 26)) 2 P) 1 (mdR (fun i => P (i + 1) >>> 1) (S.2.1 1) 24)) 0 (rowsF (mB (mB (mB (mI S 0 0) 3 (mdR (fun i => gins (mg S s) i) (S.2.1 3) 26)) 2 P) 1 (mdR (fun i => P (i + 1) >>> 1) (S.2.1 1) 24)) t 0 24 (mdR (fun i => P (i + 1) >>> 1) (S.2.1 1) 24))) t) : Nat) : Int) ∧ MW w H1 o (mB (mB (mB (mB (mI S 0 0) 3 (mdR (fun i => gins (mg S s) i) (S.2.1 3) 26)) 2 P) 1 (mdR (fun i => P (i + 1) >>> 1) (S.2.1 1) 24)) 0 (rowsF (mB (mB (mB (mI S 0 0) 3 (mdR (fun i => gins (mg S s) i) (S.2.1 3) 26)) 2 P) 1 (mdR (fun i => P (i + 1) >>> 1) (S.2.1 1) 24)) t 0 24 (mdR (fun i => P (i + 1) >>> 1) (S.2.1 1) 24))) ∧ mF o H0 H1)) := by
  refine pb_of (by decide +kernel) (Nat.le_of_ble_eq_true rfl) ?_
  intro p_ e_ s_ m_ ar_ bl_ me_ co_ ls C hh hG hl
  have hl : lv_has ls 6 [(0, .ref (o)), (1, .int (iZ (((s : Nat) : Int)))), (2, .int (iZ (((x : Nat) : Int)))), (3, .int (iZ (((y : Nat) : Int)))), (4, .int (iZ (((t : Nat) : Int))))] := hl
  have hM0 := hM; obtain ⟨hz, hO, hA1, hA2, hA3, hA4, hA5, hA6, hA7, hA8, hA9, hA10, hA11, hA12⟩ := hM0
  have hF : mF o H0 H0 := mF.rf
  have L87 : ∀ (n_ : Nat) (k : Nat) (P : Nat → Nat) (H : Heap), 24 - k = n_ → (pb_G w s_ H) → (MW w H o (mB (mB (mB (mI S 0 0) 3 (mdR (fun i => gins (mg S s) i) (S.2.1 3) 26)) 2 P) 1 (mdR (fun i => P (i + 1) >>> 1) (S.2.1 1) k))) → (mF o H0 H) → (k ≤ 24) → (FL false (mdR (fun i => gins (mg S s) i) (S.2.1 3) 26) (va_up (mdR (fun i => 0) (S.2.1 2) 26) (y + 1) (2 <<< x)) P) → ∀ (ls : Array Slot), lv_has ls 6 [(0, .ref (o)), (4, .int (iZ (((t : Nat) : Int)))), (5, .int (iZ (((k : Nat) : Int))))] → pb_V w.2.2.2 p_ l e_ (pb_rm 6 (0) (0)) s_ m_ ar_ bl_ me_ co_ H (0) (0) (pb_E w bl_ ar_ s_ (0) (0) (pb_qi (fun z H1 => ∃ P, FL false (mdR (fun i => gins (mg S s) i) (S.2.1 3) 26) (va_up (mdR (fun i => 0) (S.2.1 2) 26) (y + 1) (2 <<< x)) P ∧ z = ((cnt (mg (mB (mB (mB (mB (mI S 0 0) 3 (mdR (fun i => gins (mg S s) i) (S.2.1 3) 26)) 2 P) 1 (mdR (fun i => P (i + 1) >>> 1) (S.2.1 1) 24)) 0 (rowsF (mB (mB (mB (mI S 0 0) 3 (mdR (fun i => gins (mg S s) i) (S.2.1 3) 26)) 2 P) 1 (mdR (fun i => P (i + 1) >>> 1) (S.2.1 1) 24)) t 0 24 (mdR (fun i => P (i + 1) >>> 1) (S.2.1 1) 24))) t) : Nat) : Int) ∧ MW w H1 o (mB (mB (mB (mB (mI S 0 0) 3 (mdR (fun i => gins (mg S s) i) (S.2.1 3) 26)) 2 P) 1 (mdR (fun i => P (i + 1) >>> 1) (S.2.1 1) 24)) 0 (rowsF (mB (mB (mB (mI S 0 0) 3 (mdR (fun i => gins (mg S s) i) (S.2.1 3) 26)) 2 P) 1 (mdR (fun i => P (i + 1) >>> 1) (S.2.1 1) 24)) t 0 24 (mdR (fun i => P (i + 1) >>> 1) (S.2.1 1) 24))) ∧ mF o H0 H1))) (F0 m_ 87 ls []) := by
    intro n_
    induction n_ using Nat.strongRecOn with
    | _ n_ ih87 =>
    intro k P H hm_ hG hM hF hk hFL ls hl
    have hM0 := hM; obtain ⟨hz, hO, hA1, hA2, hA3, hA4, hA5, hA6, hA7, hA8, hA9, hA10, hA11, hA12⟩ := hM0
    have hO : pb_O w H o 2 [.int (iZ ((0))), .int (iZ ((S.1 1))), .ref (o + 1), .ref (o + 2), .ref (o + 3), .ref (o + 4), .ref (o + 5), .ref (o + 6), .ref (o + 7), .ref (o + 8), .ref (o + 9), .ref (o + 10), .ref (o + 11), .ref (o + 12), .int (iZ ((S.1 2))), .int (iZ ((S.1 3)))] := hO
    have hA1 : pb_A w H (o + 1) 0 192 (pb_nf (S.2.1 0)) := hA1
    have hA2 : pb_A w H (o + 2) 0 24 (pb_nf (mdR (fun i => P (i + 1) >>> 1) (S.2.1 1) k)) := hA2
    have hA3 : pb_A w H (o + 3) 0 26 (pb_nf (P)) := hA3
    have hA4 : pb_A w H (o + 4) 0 26 (pb_nf (mdR (fun i => gins (mg S s) i) (S.2.1 3) 26)) := hA4
    have hA5 : pb_A w H (o + 5) 0 40 (pb_zf (S.2.2 0)) := hA5
    have hA6 : pb_A w H (o + 6) 0 40 (pb_zf (S.2.2 1)) := hA6
    have hA7 : pb_A w H (o + 7) 0 576 (pb_zf (S.2.2 2)) := hA7
    have hA8 : pb_A w H (o + 8) 0 1300 (pb_zf (S.2.2 3)) := hA8
    have hA9 : pb_A w H (o + 9) 0 1300 (pb_zf (S.2.2 4)) := hA9
    have hA10 : pb_A w H (o + 10) 0 400 (pb_zf (S.2.2 5)) := hA10
    have hA11 : pb_A w H (o + 11) 0 400 (pb_zf (S.2.2 6)) := hA11
    have hA12 : pb_A w H (o + 12) 0 625 (pb_nf (S.2.1 4)) := hA12
    refine pb_iload C dX3_keepPart_87 (lv_at hl 2 rfl) ?_
    refine pb_bip C dX3_keepPart_89 (by decide) ?_
    refine pb_icmp_ge C dX3_keepPart_91 (x := ((k : Nat) : Int)) (y := 24) (tgt := 118) (by decide) (by omega) (by omega) (fun c91_ => ?_) (fun c91_ => ?_)
    · obtain rfl : k = 24 := by omega
      refine pb_aload_n C dX3_keepPart_118 rfl (lv_at hl 0 rfl) ?_
      refine pb_iload C dX3_keepPart_119 (lv_at hl 1 rfl) ?_
      refine pb_go_i (bc' := 0) (bs' := 0) (pb_runV (rest := []) C hG (met_X3_puts l o (mB (mB (mB (mI S 0 0) 3 (mdR (fun i => gins (mg S s) i) (S.2.1 3) 26)) 2 P) 1 (mdR (fun i => P (i + 1) >>> 1) (S.2.1 1) 24)) hM t ht hb (fun y hy => by rw [show (mB (mB (mB (mI S 0 0) 3 (mdR (fun i => gins (mg S s) i) (S.2.1 3) 26)) 2 P) 1 (mdR (fun i => P (i + 1) >>> 1) (S.2.1 1) 24)).2.1 1 y = (mdR (fun i => P (i + 1) >>> 1) (S.2.1 1) 24) y from rfl, mdR, if_pos hy]; exact kp_lt2 (mg_ok hb hs) hFL (by omega))) hO.r (ci := 2) rfl (lw_V q1851 q1853 qs31 q60 q1854) ⟨rfl, hdX3_puts⟩ rfl hl.1 rfl (Nat.le_of_ble_eq_true rfl) ⟨(Nat.le_of_ble_eq_true rfl), (Nat.le_of_ble_eq_true rfl)⟩ dX3_keepPart_121) (by omega) (by omega) (fun z_ H_ hp_ => ?_)
      obtain ⟨hz_, hM, hF2⟩ := hp_
      have hF := hF.tr hF2
      exact pb_iret C dX3_keepPart_124 (⟨_, rfl, P, hFL, hz_, hM, hF⟩)
    · have hPl := kp_lt (mg_ok hb hs) hFL (y := k + 1) (by omega)
      refine pb_aload_n C dX3_keepPart_94 rfl (lv_at hl 0 rfl) ?_
      refine pb_get C in_X3 hO.r (ci := 2) rfl 3 (by decide) q1740 (fun _ h9 => h9) (v := .ref (o + 2)) rfl dX3_keepPart_95 ?_
      refine pb_iload C dX3_keepPart_98 (lv_at hl 2 rfl) ?_
      refine pb_aload_n C dX3_keepPart_100 rfl (lv_at hl 0 rfl) ?_
      refine pb_get C in_X3 hO.r (ci := 2) rfl 4 (by decide) q1741 (fun _ h9 => h9) (v := .ref (o + 3)) rfl dX3_keepPart_101 ?_
      refine pb_iload C dX3_keepPart_104 (lv_at hl 2 rfl) ?_
      refine pb_ic C dX3_keepPart_106 ?_
      refine pb_iadd C dX3_keepPart_107 ?_
      refine pb_iald C hA3.b (i := (((k + 1) : Nat) : Int)) (v := .int (iZ ((((P ((k + 1))) : Nat) : Int)))) (by omega) rfl dX3_keepPart_108 ?_
      refine pb_ic C dX3_keepPart_109 ?_
      refine pb_ishr C dX3_keepPart_110 (x := (P ((k + 1)))) (y := 1) (by omega) (by omega) ?_
      refine pb_iast C hA2 (i := ((k : Nat) : Int)) (by omega) (by omega) dX3_keepPart_111 fun H1_ hu_ hA2 => ?_
      rw [pb_upN, Int.toNat_natCast, mdR_step (fun i => P (i + 1) >>> 1) _ k (v := ((P ((k + 1))) >>> 1)) rfl] at hA2
      have hG := hG.kept (hu_.z (by omega))
      have hO := hO.kept (hu_.2 _ (by omega))
      have hA1 := hA1.kept (hu_.2 _ (by omega))
      have hA3 := hA3.kept (hu_.2 _ (by omega))
      have hA4 := hA4.kept (hu_.2 _ (by omega))
      have hA5 := hA5.kept (hu_.2 _ (by omega))
      have hA6 := hA6.kept (hu_.2 _ (by omega))
      have hA7 := hA7.kept (hu_.2 _ (by omega))
      have hA8 := hA8.kept (hu_.2 _ (by omega))
      have hA9 := hA9.kept (hu_.2 _ (by omega))
      have hA10 := hA10.kept (hu_.2 _ (by omega))
      have hA11 := hA11.kept (hu_.2 _ (by omega))
      have hA12 := hA12.kept (hu_.2 _ (by omega))
      have hF := hF.up hu_ (by omega)
      refine pb_iinc C dX3_keepPart_112 hl (j := 2) (x := (((k : Nat) : Int))) rfl (by decide) rfl fun ls hl => ?_
      have hl : lv_has ls 6 [(5, .int (iZ ((((k + 1) : Nat) : Int)))), (0, .ref (o)), (4, .int (iZ (((t : Nat) : Int))))] := hl
      refine pb_goto C dX3_keepPart_115 (tgt := 87) (by decide) ?_
      exact pb_V.mono (by omega) (by omega) (ih87 _ (by omega) (k + 1) P H1_ rfl hG ⟨hz, hO, hA1, hA2, hA3, hA4, hA5, hA6, hA7, hA8, hA9, hA10, hA11, hA12⟩ hF (by omega) hFL ls (lv_sub hl [1, 2, 0] rfl))
  refine pb_aload_n C dX3_keepPart_0 rfl (lv_at hl 0 rfl) ?_
  refine pb_iload_n C dX3_keepPart_1 rfl (lv_at hl 1 rfl) ?_
  refine pb_go_x (bc' := 0) (bs' := 0) (pb_runS (rest := [.ref (o)]) C hG (met_X3_isSheet l (((s : Nat) : Int)) (by omega)) (lw_S q1794 q1795 q60 q1796) hdX3_isSheet rfl hl.1 rfl (Nat.le_of_ble_eq_true rfl) ⟨(Nat.le_of_ble_eq_true rfl), (Nat.le_of_ble_eq_true rfl)⟩ dX3_keepPart_2) (by omega) (by omega) ?_
  refine pb_ifB_eq C dX3_keepPart_5 (tgt := 16) (by decide) (fun c5_ => ?_) (fun c5_ => ?_)
  · have c5_ := of_decide_eq_false c5_
    omega
  · have c5_ := of_decide_eq_true c5_
    refine pb_iload C dX3_keepPart_8 (lv_at hl 4 rfl) ?_
    refine pb_go_x (bc' := 0) (bs' := 0) (pb_runS (rest := [.ref (o)]) C hG (met_X3_isSheet l (((t : Nat) : Int)) (by omega)) (lw_S q1794 q1795 q60 q1796) hdX3_isSheet rfl hl.1 rfl (Nat.le_of_ble_eq_true rfl) ⟨(Nat.le_of_ble_eq_true rfl), (Nat.le_of_ble_eq_true rfl)⟩ dX3_keepPart_10) (by omega) (by omega) ?_
    refine pb_ifB_ne C dX3_keepPart_13 (tgt := 20) (by decide) (fun c13_ => ?_) (fun c13_ => ?_)
    · have c13_ := of_decide_eq_true c13_
      refine pb_iload_n C dX3_keepPart_20 rfl (lv_at hl 2 rfl) ?_
      refine pb_iload_n C dX3_keepPart_21 rfl (lv_at hl 3 rfl) ?_
      refine pb_go_x (bc' := 0) (bs' := 0) (pb_runS (rest := [.ref (o)]) C hG (met_X3_isCell l ((x : Nat) : Int) ((y : Nat) : Int) (by omega) (by omega)) (lw_S q1879 q1880 q60 q1881) hdX3_isCell rfl hl.1 rfl (Nat.le_of_ble_eq_true rfl) ⟨(Nat.le_of_ble_eq_true rfl), (Nat.le_of_ble_eq_true rfl)⟩ dX3_keepPart_22) (by omega) (by omega) ?_
      refine pb_ifB_ne C dX3_keepPart_25 (tgt := 32) (by decide) (fun c25_ => ?_) (fun c25_ => ?_)
      · have c25_ := of_decide_eq_true c25_
        refine pb_aload_n C dX3_keepPart_32 rfl (lv_at hl 0 rfl) ?_
        refine pb_iload_n C dX3_keepPart_33 rfl (lv_at hl 1 rfl) ?_
        refine pb_iload_n C dX3_keepPart_34 rfl (lv_at hl 2 rfl) ?_
        refine pb_iload_n C dX3_keepPart_35 rfl (lv_at hl 3 rfl) ?_
        refine pb_go_x (bc' := 0) (bs' := 0) (pb_runV (rest := [.ref (o)]) C hG (met_X3_has l o S ⟨hz, hO, hA1, hA2, hA3, hA4, hA5, hA6, hA7, hA8, hA9, hA10, hA11, hA12⟩ s hs hb ((x : Nat) : Int) ((y : Nat) : Int) (by omega) (by omega)) hO.r (ci := 2) rfl (lw_V q1875 q1877 qs35 q60 q1878) ⟨rfl, hdX3_has⟩ rfl hl.1 rfl (Nat.le_of_ble_eq_true rfl) ⟨(Nat.le_of_ble_eq_true rfl), (Nat.le_of_ble_eq_true rfl)⟩ dX3_keepPart_36) (by omega) (by omega) ?_
        refine pb_ifB_ne C dX3_keepPart_39 (tgt := 46) (by decide) (fun c39_ => ?_) (fun c39_ => ?_)
        · refine pb_ic C dX3_keepPart_46 ?_
          refine pb_put C in_X3 tyX3 tyX3_ok nmX3 hO (ci := 2) rfl 0 (by decide) q1737 (fun _ h9 => h9) rfl (v := .int (iZ (0))) rfl rfl (Nat.le_of_ble_eq_true rfl) (by omega) dX3_keepPart_47 fun H2_ hu_ hO => ?_
          have hO : pb_O w H2_ (o) 2 [.int (iZ (0)), .int (iZ ((S.1 1))), .ref (o + 1), .ref (o + 2), .ref (o + 3), .ref (o + 4), .ref (o + 5), .ref (o + 6), .ref (o + 7), .ref (o + 8), .ref (o + 9), .ref (o + 10), .ref (o + 11), .ref (o + 12), .int (iZ ((S.1 2))), .int (iZ ((S.1 3)))] := hO
          have hG := hG.kept (hu_.z (by omega))
          have hA1 := hA1.kept (hu_.2 _ (by omega))
          have hA2 := hA2.kept (hu_.2 _ (by omega))
          have hA3 := hA3.kept (hu_.2 _ (by omega))
          have hA4 := hA4.kept (hu_.2 _ (by omega))
          have hA5 := hA5.kept (hu_.2 _ (by omega))
          have hA6 := hA6.kept (hu_.2 _ (by omega))
          have hA7 := hA7.kept (hu_.2 _ (by omega))
          have hA8 := hA8.kept (hu_.2 _ (by omega))
          have hA9 := hA9.kept (hu_.2 _ (by omega))
          have hA10 := hA10.kept (hu_.2 _ (by omega))
          have hA11 := hA11.kept (hu_.2 _ (by omega))
          have hA12 := hA12.kept (hu_.2 _ (by omega))
          have hF := hF.up hu_ (by omega)
          refine pb_aload_n C dX3_keepPart_50 rfl (lv_at hl 0 rfl) ?_
          refine pb_get C in_X3 hO.r (ci := 2) rfl 0 (by decide) q1737 (fun _ h9 => h9) (v := .int (iZ (0))) rfl dX3_keepPart_51 ?_
          refine pb_if_eq C dX3_keepPart_54 (x := 0) (tgt := 59) (by decide) (by omega) (fun c54_ => ?_) (fun c54_ => ?_)
          · refine pb_aload_n C dX3_keepPart_59 rfl (lv_at hl 0 rfl) ?_
            refine pb_iload_n C dX3_keepPart_60 rfl (lv_at hl 1 rfl) ?_
            refine pb_go_v (bc' := 0) (bs' := 0) (pb_runV (rest := []) C hG (met_X3_inside l o (mI S 0 0) ⟨hz, hO, hA1, hA2, hA3, hA4, hA5, hA6, hA7, hA8, hA9, hA10, hA11, hA12⟩ s hs hb) hO.r (ci := 2) rfl (lw_V q1921 q1923 qs39 q60 q1924) ⟨rfl, hdX3_inside⟩ rfl hl.1 rfl (Nat.le_of_ble_eq_true rfl) ⟨(Nat.le_of_ble_eq_true rfl), (Nat.le_of_ble_eq_true rfl)⟩ dX3_keepPart_61) (by omega) (by omega) (fun H_ hp_ => ?_)
            obtain ⟨hM, hF2⟩ := hp_
            have hG := hG.kept (hF2.z hz)
            have hF := hF.tr hF2
            have hM0 := hM; obtain ⟨hz, hO, hA1, hA2, hA3, hA4, hA5, hA6, hA7, hA8, hA9, hA10, hA11, hA12⟩ := hM0
            have hO : pb_O w H_ o 2 [.int (iZ ((0))), .int (iZ ((S.1 1))), .ref (o + 1), .ref (o + 2), .ref (o + 3), .ref (o + 4), .ref (o + 5), .ref (o + 6), .ref (o + 7), .ref (o + 8), .ref (o + 9), .ref (o + 10), .ref (o + 11), .ref (o + 12), .int (iZ ((S.1 2))), .int (iZ ((S.1 3)))] := hO
            have hA1 : pb_A w H_ (o + 1) 0 192 (pb_nf (S.2.1 0)) := hA1
            have hA2 : pb_A w H_ (o + 2) 0 24 (pb_nf (S.2.1 1)) := hA2
            have hA3 : pb_A w H_ (o + 3) 0 26 (pb_nf (S.2.1 2)) := hA3
            have hA4 : pb_A w H_ (o + 4) 0 26 (pb_nf (mdR (fun i => gins (mg S s) i) (S.2.1 3) 26)) := hA4
            have hA5 : pb_A w H_ (o + 5) 0 40 (pb_zf (S.2.2 0)) := hA5
            have hA6 : pb_A w H_ (o + 6) 0 40 (pb_zf (S.2.2 1)) := hA6
            have hA7 : pb_A w H_ (o + 7) 0 576 (pb_zf (S.2.2 2)) := hA7
            have hA8 : pb_A w H_ (o + 8) 0 1300 (pb_zf (S.2.2 3)) := hA8
            have hA9 : pb_A w H_ (o + 9) 0 1300 (pb_zf (S.2.2 4)) := hA9
            have hA10 : pb_A w H_ (o + 10) 0 400 (pb_zf (S.2.2 5)) := hA10
            have hA11 : pb_A w H_ (o + 11) 0 400 (pb_zf (S.2.2 6)) := hA11
            have hA12 : pb_A w H_ (o + 12) 0 625 (pb_nf (S.2.1 4)) := hA12
            refine pb_aload_n C dX3_keepPart_64 rfl (lv_at hl 0 rfl) ?_
            refine pb_go_v (bc' := 0) (bs' := 0) (pb_runV (rest := []) C hG (met_X3_empties l o (mB (mI S 0 0) 3 (mdR (fun i => gins (mg S s) i) (S.2.1 3) 26)) hM) hO.r (ci := 2) rfl (lw_V q1908 q1910 qs37 q60 q1911) ⟨rfl, hdX3_empties⟩ rfl hl.1 rfl (Nat.le_of_ble_eq_true rfl) ⟨(Nat.le_of_ble_eq_true rfl), (Nat.le_of_ble_eq_true rfl)⟩ dX3_keepPart_65) (by omega) (by omega) (fun H_ hp_ => ?_)
            obtain ⟨hM, hF2⟩ := hp_
            have hG := hG.kept (hF2.z hz)
            have hF := hF.tr hF2
            have hM0 := hM; obtain ⟨hz, hO, hA1, hA2, hA3, hA4, hA5, hA6, hA7, hA8, hA9, hA10, hA11, hA12⟩ := hM0
            have hO : pb_O w H_ o 2 [.int (iZ ((0))), .int (iZ ((S.1 1))), .ref (o + 1), .ref (o + 2), .ref (o + 3), .ref (o + 4), .ref (o + 5), .ref (o + 6), .ref (o + 7), .ref (o + 8), .ref (o + 9), .ref (o + 10), .ref (o + 11), .ref (o + 12), .int (iZ ((S.1 2))), .int (iZ ((S.1 3)))] := hO
            have hA1 : pb_A w H_ (o + 1) 0 192 (pb_nf (S.2.1 0)) := hA1
            have hA2 : pb_A w H_ (o + 2) 0 24 (pb_nf (S.2.1 1)) := hA2
            have hA3 : pb_A w H_ (o + 3) 0 26 (pb_nf (mdR (fun i => 0) (S.2.1 2) 26)) := hA3
            have hA4 : pb_A w H_ (o + 4) 0 26 (pb_nf (mdR (fun i => gins (mg S s) i) (S.2.1 3) 26)) := hA4
            have hA5 : pb_A w H_ (o + 5) 0 40 (pb_zf (S.2.2 0)) := hA5
            have hA6 : pb_A w H_ (o + 6) 0 40 (pb_zf (S.2.2 1)) := hA6
            have hA7 : pb_A w H_ (o + 7) 0 576 (pb_zf (S.2.2 2)) := hA7
            have hA8 : pb_A w H_ (o + 8) 0 1300 (pb_zf (S.2.2 3)) := hA8
            have hA9 : pb_A w H_ (o + 9) 0 1300 (pb_zf (S.2.2 4)) := hA9
            have hA10 : pb_A w H_ (o + 10) 0 400 (pb_zf (S.2.2 5)) := hA10
            have hA11 : pb_A w H_ (o + 11) 0 400 (pb_zf (S.2.2 6)) := hA11
            have hA12 : pb_A w H_ (o + 12) 0 625 (pb_nf (S.2.1 4)) := hA12
            refine pb_aload_n C dX3_keepPart_68 rfl (lv_at hl 0 rfl) ?_
            refine pb_get C in_X3 hO.r (ci := 2) rfl 4 (by decide) q1741 (fun _ h9 => h9) (v := .ref (o + 3)) rfl dX3_keepPart_69 ?_
            refine pb_iload_n C dX3_keepPart_72 rfl (lv_at hl 3 rfl) ?_
            refine pb_ic C dX3_keepPart_73 ?_
            refine pb_iadd C dX3_keepPart_74 ?_
            refine pb_ic C dX3_keepPart_75 ?_
            refine pb_iload_n C dX3_keepPart_76 rfl (lv_at hl 2 rfl) ?_
            refine pb_ishl C dX3_keepPart_77 (x := 2) (y := x) (by omega) ?_
            refine pb_iast C hA3 (i := (((y + 1) : Nat) : Int)) (by omega) (by omega) dX3_keepPart_78 fun H3_ hu_ hA3 => ?_
            rw [pb_upN, Int.toNat_natCast] at hA3
            have hG := hG.kept (hu_.z (by omega))
            have hO := hO.kept (hu_.2 _ (by omega))
            have hA1 := hA1.kept (hu_.2 _ (by omega))
            have hA2 := hA2.kept (hu_.2 _ (by omega))
            have hA4 := hA4.kept (hu_.2 _ (by omega))
            have hA5 := hA5.kept (hu_.2 _ (by omega))
            have hA6 := hA6.kept (hu_.2 _ (by omega))
            have hA7 := hA7.kept (hu_.2 _ (by omega))
            have hA8 := hA8.kept (hu_.2 _ (by omega))
            have hA9 := hA9.kept (hu_.2 _ (by omega))
            have hA10 := hA10.kept (hu_.2 _ (by omega))
            have hA11 := hA11.kept (hu_.2 _ (by omega))
            have hA12 := hA12.kept (hu_.2 _ (by omega))
            have hF := hF.up hu_ (by omega)
            refine pb_aload_n C dX3_keepPart_79 rfl (lv_at hl 0 rfl) ?_
            refine pb_ic C dX3_keepPart_80 ?_
            refine pb_go_v (bc' := 0) (bs' := 0) (pb_runV (rest := []) C hG (met_X3_spreads l o (mB (mB (mI S 0 0) 3 (mdR (fun i => gins (mg S s) i) (S.2.1 3) 26)) 2 (va_up (mdR (fun i => 0) (S.2.1 2) 26) (y + 1) (2 <<< x))) ⟨hz, hO, hA1, hA2, hA3, hA4, hA5, hA6, hA7, hA8, hA9, hA10, hA11, hA12⟩ false (fun y_ hy_ => by rw [show (mB (mB (mI S 0 0) 3 (mdR (fun i => gins (mg S s) i) (S.2.1 3) 26)) 2 (va_up (mdR (fun i => 0) (S.2.1 2) 26) (y + 1) (2 <<< x))).2.1 3 y_ = (mdR (fun i => gins (mg S s) i) (S.2.1 3) 26) y_ from rfl, mdR, if_pos hy_]; exact gins_lt (mg_ok hb hs) y_) (kp_sub _ _ hy hc)) hO.r (ci := 2) rfl (lw_V q1912 q1914 qs38 q60 q1915) ⟨rfl, hdX3_spreads⟩ rfl hl.1 rfl (Nat.le_of_ble_eq_true rfl) ⟨(Nat.le_of_ble_eq_true rfl), (Nat.le_of_ble_eq_true rfl)⟩ dX3_keepPart_81) (by omega) (by omega) (fun H_ hp_ => ?_)
            obtain ⟨P, hFL, hM, hF2⟩ := hp_
            have hG := hG.kept (hF2.z hz)
            have hF := hF.tr hF2
            have hM0 := hM; obtain ⟨hz, hO, hA1, hA2, hA3, hA4, hA5, hA6, hA7, hA8, hA9, hA10, hA11, hA12⟩ := hM0
            have hO : pb_O w H_ o 2 [.int (iZ ((0))), .int (iZ ((S.1 1))), .ref (o + 1), .ref (o + 2), .ref (o + 3), .ref (o + 4), .ref (o + 5), .ref (o + 6), .ref (o + 7), .ref (o + 8), .ref (o + 9), .ref (o + 10), .ref (o + 11), .ref (o + 12), .int (iZ ((S.1 2))), .int (iZ ((S.1 3)))] := hO
            have hA1 : pb_A w H_ (o + 1) 0 192 (pb_nf (S.2.1 0)) := hA1
            have hA2 : pb_A w H_ (o + 2) 0 24 (pb_nf (S.2.1 1)) := hA2
            have hA3 : pb_A w H_ (o + 3) 0 26 (pb_nf (P)) := hA3
            have hA4 : pb_A w H_ (o + 4) 0 26 (pb_nf (mdR (fun i => gins (mg S s) i) (S.2.1 3) 26)) := hA4
            have hA5 : pb_A w H_ (o + 5) 0 40 (pb_zf (S.2.2 0)) := hA5
            have hA6 : pb_A w H_ (o + 6) 0 40 (pb_zf (S.2.2 1)) := hA6
            have hA7 : pb_A w H_ (o + 7) 0 576 (pb_zf (S.2.2 2)) := hA7
            have hA8 : pb_A w H_ (o + 8) 0 1300 (pb_zf (S.2.2 3)) := hA8
            have hA9 : pb_A w H_ (o + 9) 0 1300 (pb_zf (S.2.2 4)) := hA9
            have hA10 : pb_A w H_ (o + 10) 0 400 (pb_zf (S.2.2 5)) := hA10
            have hA11 : pb_A w H_ (o + 11) 0 400 (pb_zf (S.2.2 6)) := hA11
            have hA12 : pb_A w H_ (o + 12) 0 625 (pb_nf (S.2.1 4)) := hA12
            refine pb_ic C dX3_keepPart_84 ?_
            refine pb_istore C dX3_keepPart_85 hl (by decide) rfl fun ls hl => ?_
            have hl : lv_has ls 6 [(5, .int (iZ (0))), (0, .ref (o)), (1, .int (iZ (((s : Nat) : Int)))), (2, .int (iZ (((x : Nat) : Int)))), (3, .int (iZ (((y : Nat) : Int)))), (4, .int (iZ (((t : Nat) : Int))))] := hl
            exact pb_V.mono (by omega) (by omega) (L87 _ 0 P H_ rfl hG (by rw [mdR_0]; exact ⟨hz, hO, hA1, hA2, hA3, hA4, hA5, hA6, hA7, hA8, hA9, hA10, hA11, hA12⟩) hF (by omega) hFL ls (lv_sub hl [1, 5, 0] rfl))
          · exact absurd c54_ (by decide)
        · rw [gc, gr_nat] at c39_; simp [hc] at c39_
      · have c25_ := of_decide_eq_false c25_
        omega
    · have c13_ := of_decide_eq_false c13_
      omega

set_option maxHeartbeats 1000000 in
theorem met_X3_keepPart_1 {w : pb_W} (l : Launch) {H0 : Heap} (o : Nat) (S : mS) (hM : MW w H0 o S) (s t : Int) (hsr : -2147483648 ≤ s ∧ s ≤ 2147483647) (htr : -2147483648 ≤ t ∧ t ≤ 2147483647) (x y : Int) (hx : -2147483648 ≤ x ∧ x ≤ 2147483647) (hy : -2147483648 ≤ y ∧ y ≤ 2147483647) (hn : ¬ ((0 ≤ s ∧ s ≤ 7) ∧ 0 ≤ t ∧ t ≤ 7)) : pb_M w l yX3_keepPart cX3_keepPart 6 (some .int) 6 (0) (0) [.ref (o), .int (iZ (s)), .int (iZ (x)), .int (iZ (y)), .int (iZ (t))] H0 (pb_qi (fun z H1 => z = 0 ∧ MW w H1 o (mI S 0 1) ∧ mF o H0 H1)) := by
  refine pb_of (by decide +kernel) (Nat.le_of_ble_eq_true rfl) ?_
  intro p_ e_ s_ m_ ar_ bl_ me_ co_ ls C hh hG hl
  have hl : lv_has ls 6 [(0, .ref (o)), (1, .int (iZ (s))), (2, .int (iZ (x))), (3, .int (iZ (y))), (4, .int (iZ (t)))] := hl
  have hM0 := hM; obtain ⟨hz, hO, hA1, hA2, hA3, hA4, hA5, hA6, hA7, hA8, hA9, hA10, hA11, hA12⟩ := hM0
  have hF : mF o H0 H0 := mF.rf
  refine pb_aload_n C dX3_keepPart_0 rfl (lv_at hl 0 rfl) ?_
  refine pb_iload_n C dX3_keepPart_1 rfl (lv_at hl 1 rfl) ?_
  refine pb_go_x (bc' := 0) (bs' := 0) (pb_runS (rest := [.ref (o)]) C hG (met_X3_isSheet l s (by omega)) (lw_S q1794 q1795 q60 q1796) hdX3_isSheet rfl hl.1 rfl (Nat.le_of_ble_eq_true rfl) ⟨(Nat.le_of_ble_eq_true rfl), (Nat.le_of_ble_eq_true rfl)⟩ dX3_keepPart_2) (by omega) (by omega) ?_
  refine pb_ifB_eq C dX3_keepPart_5 (tgt := 16) (by decide) (fun c5_ => ?_) (fun c5_ => ?_)
  · have c5_ := of_decide_eq_false c5_
    refine pb_ic C dX3_keepPart_16 ?_
    refine pb_goto C dX3_keepPart_17 (tgt := 47) (by decide) ?_
    refine pb_put C in_X3 tyX3 tyX3_ok nmX3 hO (ci := 2) rfl 0 (by decide) q1737 (fun _ h9 => h9) rfl (v := .int (iZ (1))) rfl rfl (Nat.le_of_ble_eq_true rfl) (by omega) dX3_keepPart_47 fun H1_ hu_ hO => ?_
    have hO : pb_O w H1_ (o) 2 [.int (iZ (1)), .int (iZ ((S.1 1))), .ref (o + 1), .ref (o + 2), .ref (o + 3), .ref (o + 4), .ref (o + 5), .ref (o + 6), .ref (o + 7), .ref (o + 8), .ref (o + 9), .ref (o + 10), .ref (o + 11), .ref (o + 12), .int (iZ ((S.1 2))), .int (iZ ((S.1 3)))] := hO
    have hG := hG.kept (hu_.z (by omega))
    have hA1 := hA1.kept (hu_.2 _ (by omega))
    have hA2 := hA2.kept (hu_.2 _ (by omega))
    have hA3 := hA3.kept (hu_.2 _ (by omega))
    have hA4 := hA4.kept (hu_.2 _ (by omega))
    have hA5 := hA5.kept (hu_.2 _ (by omega))
    have hA6 := hA6.kept (hu_.2 _ (by omega))
    have hA7 := hA7.kept (hu_.2 _ (by omega))
    have hA8 := hA8.kept (hu_.2 _ (by omega))
    have hA9 := hA9.kept (hu_.2 _ (by omega))
    have hA10 := hA10.kept (hu_.2 _ (by omega))
    have hA11 := hA11.kept (hu_.2 _ (by omega))
    have hA12 := hA12.kept (hu_.2 _ (by omega))
    have hF := hF.up hu_ (by omega)
    refine pb_aload_n C dX3_keepPart_50 rfl (lv_at hl 0 rfl) ?_
    refine pb_get C in_X3 hO.r (ci := 2) rfl 0 (by decide) q1737 (fun _ h9 => h9) (v := .int (iZ (1))) rfl dX3_keepPart_51 ?_
    refine pb_if_eq C dX3_keepPart_54 (x := 1) (tgt := 59) (by decide) (by omega) (fun c54_ => ?_) (fun c54_ => ?_)
    · exact absurd c54_ (by decide)
    · refine pb_ic C dX3_keepPart_57 ?_
      exact pb_iret C dX3_keepPart_58 (⟨_, rfl, rfl, ⟨hz, hO, hA1, hA2, hA3, hA4, hA5, hA6, hA7, hA8, hA9, hA10, hA11, hA12⟩, hF⟩)
  · have c5_ := of_decide_eq_true c5_
    refine pb_iload C dX3_keepPart_8 (lv_at hl 4 rfl) ?_
    refine pb_go_x (bc' := 0) (bs' := 0) (pb_runS (rest := [.ref (o)]) C hG (met_X3_isSheet l t (by omega)) (lw_S q1794 q1795 q60 q1796) hdX3_isSheet rfl hl.1 rfl (Nat.le_of_ble_eq_true rfl) ⟨(Nat.le_of_ble_eq_true rfl), (Nat.le_of_ble_eq_true rfl)⟩ dX3_keepPart_10) (by omega) (by omega) ?_
    refine pb_ifB_ne C dX3_keepPart_13 (tgt := 20) (by decide) (fun c13_ => ?_) (fun c13_ => ?_)
    · have c13_ := of_decide_eq_true c13_
      omega
    · have c13_ := of_decide_eq_false c13_
      refine pb_ic C dX3_keepPart_16 ?_
      refine pb_goto C dX3_keepPart_17 (tgt := 47) (by decide) ?_
      refine pb_put C in_X3 tyX3 tyX3_ok nmX3 hO (ci := 2) rfl 0 (by decide) q1737 (fun _ h9 => h9) rfl (v := .int (iZ (1))) rfl rfl (Nat.le_of_ble_eq_true rfl) (by omega) dX3_keepPart_47 fun H2_ hu_ hO => ?_
      have hO : pb_O w H2_ (o) 2 [.int (iZ (1)), .int (iZ ((S.1 1))), .ref (o + 1), .ref (o + 2), .ref (o + 3), .ref (o + 4), .ref (o + 5), .ref (o + 6), .ref (o + 7), .ref (o + 8), .ref (o + 9), .ref (o + 10), .ref (o + 11), .ref (o + 12), .int (iZ ((S.1 2))), .int (iZ ((S.1 3)))] := hO
      have hG := hG.kept (hu_.z (by omega))
      have hA1 := hA1.kept (hu_.2 _ (by omega))
      have hA2 := hA2.kept (hu_.2 _ (by omega))
      have hA3 := hA3.kept (hu_.2 _ (by omega))
      have hA4 := hA4.kept (hu_.2 _ (by omega))
      have hA5 := hA5.kept (hu_.2 _ (by omega))
      have hA6 := hA6.kept (hu_.2 _ (by omega))
      have hA7 := hA7.kept (hu_.2 _ (by omega))
      have hA8 := hA8.kept (hu_.2 _ (by omega))
      have hA9 := hA9.kept (hu_.2 _ (by omega))
      have hA10 := hA10.kept (hu_.2 _ (by omega))
      have hA11 := hA11.kept (hu_.2 _ (by omega))
      have hA12 := hA12.kept (hu_.2 _ (by omega))
      have hF := hF.up hu_ (by omega)
      refine pb_aload_n C dX3_keepPart_50 rfl (lv_at hl 0 rfl) ?_
      refine pb_get C in_X3 hO.r (ci := 2) rfl 0 (by decide) q1737 (fun _ h9 => h9) (v := .int (iZ (1))) rfl dX3_keepPart_51 ?_
      refine pb_if_eq C dX3_keepPart_54 (x := 1) (tgt := 59) (by decide) (by omega) (fun c54_ => ?_) (fun c54_ => ?_)
      · exact absurd c54_ (by decide)
      · refine pb_ic C dX3_keepPart_57 ?_
        exact pb_iret C dX3_keepPart_58 (⟨_, rfl, rfl, ⟨hz, hO, hA1, hA2, hA3, hA4, hA5, hA6, hA7, hA8, hA9, hA10, hA11, hA12⟩, hF⟩)

set_option maxHeartbeats 1000000 in
theorem met_X3_keepPart_2 {w : pb_W} (l : Launch) {H0 : Heap} (o : Nat) (S : mS) (hM : MW w H0 o S) (s t : Nat) (hs : s < 8) (ht : t < 8) (x y : Int) (hx : -2147483648 ≤ x ∧ x ≤ 2147483647) (hy : -2147483648 ≤ y ∧ y ≤ 2147483647) (hn : ¬ ((0 ≤ x ∧ x ≤ 23) ∧ 0 ≤ y ∧ y ≤ 23)) : pb_M w l yX3_keepPart cX3_keepPart 6 (some .int) 6 (0) (0) [.ref (o), .int (iZ (((s : Nat) : Int))), .int (iZ (x)), .int (iZ (y)), .int (iZ (((t : Nat) : Int)))] H0 (pb_qi (fun z H1 => z = 0 ∧ MW w H1 o (mI S 0 2) ∧ mF o H0 H1)) := by
  refine pb_of (by decide +kernel) (Nat.le_of_ble_eq_true rfl) ?_
  intro p_ e_ s_ m_ ar_ bl_ me_ co_ ls C hh hG hl
  have hl : lv_has ls 6 [(0, .ref (o)), (1, .int (iZ (((s : Nat) : Int)))), (2, .int (iZ (x))), (3, .int (iZ (y))), (4, .int (iZ (((t : Nat) : Int))))] := hl
  have hM0 := hM; obtain ⟨hz, hO, hA1, hA2, hA3, hA4, hA5, hA6, hA7, hA8, hA9, hA10, hA11, hA12⟩ := hM0
  have hF : mF o H0 H0 := mF.rf
  refine pb_aload_n C dX3_keepPart_0 rfl (lv_at hl 0 rfl) ?_
  refine pb_iload_n C dX3_keepPart_1 rfl (lv_at hl 1 rfl) ?_
  refine pb_go_x (bc' := 0) (bs' := 0) (pb_runS (rest := [.ref (o)]) C hG (met_X3_isSheet l (((s : Nat) : Int)) (by omega)) (lw_S q1794 q1795 q60 q1796) hdX3_isSheet rfl hl.1 rfl (Nat.le_of_ble_eq_true rfl) ⟨(Nat.le_of_ble_eq_true rfl), (Nat.le_of_ble_eq_true rfl)⟩ dX3_keepPart_2) (by omega) (by omega) ?_
  refine pb_ifB_eq C dX3_keepPart_5 (tgt := 16) (by decide) (fun c5_ => ?_) (fun c5_ => ?_)
  · have c5_ := of_decide_eq_false c5_
    omega
  · have c5_ := of_decide_eq_true c5_
    refine pb_iload C dX3_keepPart_8 (lv_at hl 4 rfl) ?_
    refine pb_go_x (bc' := 0) (bs' := 0) (pb_runS (rest := [.ref (o)]) C hG (met_X3_isSheet l (((t : Nat) : Int)) (by omega)) (lw_S q1794 q1795 q60 q1796) hdX3_isSheet rfl hl.1 rfl (Nat.le_of_ble_eq_true rfl) ⟨(Nat.le_of_ble_eq_true rfl), (Nat.le_of_ble_eq_true rfl)⟩ dX3_keepPart_10) (by omega) (by omega) ?_
    refine pb_ifB_ne C dX3_keepPart_13 (tgt := 20) (by decide) (fun c13_ => ?_) (fun c13_ => ?_)
    · have c13_ := of_decide_eq_true c13_
      refine pb_iload_n C dX3_keepPart_20 rfl (lv_at hl 2 rfl) ?_
      refine pb_iload_n C dX3_keepPart_21 rfl (lv_at hl 3 rfl) ?_
      refine pb_go_x (bc' := 0) (bs' := 0) (pb_runS (rest := [.ref (o)]) C hG (met_X3_isCell l x y (by omega) (by omega)) (lw_S q1879 q1880 q60 q1881) hdX3_isCell rfl hl.1 rfl (Nat.le_of_ble_eq_true rfl) ⟨(Nat.le_of_ble_eq_true rfl), (Nat.le_of_ble_eq_true rfl)⟩ dX3_keepPart_22) (by omega) (by omega) ?_
      refine pb_ifB_ne C dX3_keepPart_25 (tgt := 32) (by decide) (fun c25_ => ?_) (fun c25_ => ?_)
      · have c25_ := of_decide_eq_true c25_
        omega
      · have c25_ := of_decide_eq_false c25_
        refine pb_ic C dX3_keepPart_28 ?_
        refine pb_goto C dX3_keepPart_29 (tgt := 47) (by decide) ?_
        refine pb_put C in_X3 tyX3 tyX3_ok nmX3 hO (ci := 2) rfl 0 (by decide) q1737 (fun _ h9 => h9) rfl (v := .int (iZ (2))) rfl rfl (Nat.le_of_ble_eq_true rfl) (by omega) dX3_keepPart_47 fun H1_ hu_ hO => ?_
        have hO : pb_O w H1_ (o) 2 [.int (iZ (2)), .int (iZ ((S.1 1))), .ref (o + 1), .ref (o + 2), .ref (o + 3), .ref (o + 4), .ref (o + 5), .ref (o + 6), .ref (o + 7), .ref (o + 8), .ref (o + 9), .ref (o + 10), .ref (o + 11), .ref (o + 12), .int (iZ ((S.1 2))), .int (iZ ((S.1 3)))] := hO
        have hG := hG.kept (hu_.z (by omega))
        have hA1 := hA1.kept (hu_.2 _ (by omega))
        have hA2 := hA2.kept (hu_.2 _ (by omega))
        have hA3 := hA3.kept (hu_.2 _ (by omega))
        have hA4 := hA4.kept (hu_.2 _ (by omega))
        have hA5 := hA5.kept (hu_.2 _ (by omega))
        have hA6 := hA6.kept (hu_.2 _ (by omega))
        have hA7 := hA7.kept (hu_.2 _ (by omega))
        have hA8 := hA8.kept (hu_.2 _ (by omega))
        have hA9 := hA9.kept (hu_.2 _ (by omega))
        have hA10 := hA10.kept (hu_.2 _ (by omega))
        have hA11 := hA11.kept (hu_.2 _ (by omega))
        have hA12 := hA12.kept (hu_.2 _ (by omega))
        have hF := hF.up hu_ (by omega)
        refine pb_aload_n C dX3_keepPart_50 rfl (lv_at hl 0 rfl) ?_
        refine pb_get C in_X3 hO.r (ci := 2) rfl 0 (by decide) q1737 (fun _ h9 => h9) (v := .int (iZ (2))) rfl dX3_keepPart_51 ?_
        refine pb_if_eq C dX3_keepPart_54 (x := 2) (tgt := 59) (by decide) (by omega) (fun c54_ => ?_) (fun c54_ => ?_)
        · exact absurd c54_ (by decide)
        · refine pb_ic C dX3_keepPart_57 ?_
          exact pb_iret C dX3_keepPart_58 (⟨_, rfl, rfl, ⟨hz, hO, hA1, hA2, hA3, hA4, hA5, hA6, hA7, hA8, hA9, hA10, hA11, hA12⟩, hF⟩)
    · have c13_ := of_decide_eq_false c13_
      omega

set_option maxHeartbeats 1000000 in
theorem met_X3_keepPart_3 {w : pb_W} (l : Launch) {H0 : Heap} (o : Nat) (S : mS) (hM : MW w H0 o S) (s t : Nat) (hs : s < 8) (ht : t < 8) (hb : mok S) (x y : Int) (hx : -2147483648 ≤ x ∧ x ≤ 2147483647) (hy : -2147483648 ≤ y ∧ y ≤ 2147483647) (hn : (0 ≤ x ∧ x ≤ 23) ∧ 0 ≤ y ∧ y ≤ 23) (hc : gc (mg S s) x y = false) : pb_M w l yX3_keepPart cX3_keepPart 6 (some .int) 6 (0) (0) [.ref (o), .int (iZ (((s : Nat) : Int))), .int (iZ (x)), .int (iZ (y)), .int (iZ (((t : Nat) : Int)))] H0 (pb_qi (fun z H1 => z = 0 ∧ MW w H1 o (mI S 0 3) ∧ mF o H0 H1)) := by
  refine pb_of (by decide +kernel) (Nat.le_of_ble_eq_true rfl) ?_
  intro p_ e_ s_ m_ ar_ bl_ me_ co_ ls C hh hG hl
  have hl : lv_has ls 6 [(0, .ref (o)), (1, .int (iZ (((s : Nat) : Int)))), (2, .int (iZ (x))), (3, .int (iZ (y))), (4, .int (iZ (((t : Nat) : Int))))] := hl
  have hM0 := hM; obtain ⟨hz, hO, hA1, hA2, hA3, hA4, hA5, hA6, hA7, hA8, hA9, hA10, hA11, hA12⟩ := hM0
  have hF : mF o H0 H0 := mF.rf
  refine pb_aload_n C dX3_keepPart_0 rfl (lv_at hl 0 rfl) ?_
  refine pb_iload_n C dX3_keepPart_1 rfl (lv_at hl 1 rfl) ?_
  refine pb_go_x (bc' := 0) (bs' := 0) (pb_runS (rest := [.ref (o)]) C hG (met_X3_isSheet l (((s : Nat) : Int)) (by omega)) (lw_S q1794 q1795 q60 q1796) hdX3_isSheet rfl hl.1 rfl (Nat.le_of_ble_eq_true rfl) ⟨(Nat.le_of_ble_eq_true rfl), (Nat.le_of_ble_eq_true rfl)⟩ dX3_keepPart_2) (by omega) (by omega) ?_
  refine pb_ifB_eq C dX3_keepPart_5 (tgt := 16) (by decide) (fun c5_ => ?_) (fun c5_ => ?_)
  · have c5_ := of_decide_eq_false c5_
    omega
  · have c5_ := of_decide_eq_true c5_
    refine pb_iload C dX3_keepPart_8 (lv_at hl 4 rfl) ?_
    refine pb_go_x (bc' := 0) (bs' := 0) (pb_runS (rest := [.ref (o)]) C hG (met_X3_isSheet l (((t : Nat) : Int)) (by omega)) (lw_S q1794 q1795 q60 q1796) hdX3_isSheet rfl hl.1 rfl (Nat.le_of_ble_eq_true rfl) ⟨(Nat.le_of_ble_eq_true rfl), (Nat.le_of_ble_eq_true rfl)⟩ dX3_keepPart_10) (by omega) (by omega) ?_
    refine pb_ifB_ne C dX3_keepPart_13 (tgt := 20) (by decide) (fun c13_ => ?_) (fun c13_ => ?_)
    · have c13_ := of_decide_eq_true c13_
      refine pb_iload_n C dX3_keepPart_20 rfl (lv_at hl 2 rfl) ?_
      refine pb_iload_n C dX3_keepPart_21 rfl (lv_at hl 3 rfl) ?_
      refine pb_go_x (bc' := 0) (bs' := 0) (pb_runS (rest := [.ref (o)]) C hG (met_X3_isCell l x y (by omega) (by omega)) (lw_S q1879 q1880 q60 q1881) hdX3_isCell rfl hl.1 rfl (Nat.le_of_ble_eq_true rfl) ⟨(Nat.le_of_ble_eq_true rfl), (Nat.le_of_ble_eq_true rfl)⟩ dX3_keepPart_22) (by omega) (by omega) ?_
      refine pb_ifB_ne C dX3_keepPart_25 (tgt := 32) (by decide) (fun c25_ => ?_) (fun c25_ => ?_)
      · have c25_ := of_decide_eq_true c25_
        refine pb_aload_n C dX3_keepPart_32 rfl (lv_at hl 0 rfl) ?_
        refine pb_iload_n C dX3_keepPart_33 rfl (lv_at hl 1 rfl) ?_
        refine pb_iload_n C dX3_keepPart_34 rfl (lv_at hl 2 rfl) ?_
        refine pb_iload_n C dX3_keepPart_35 rfl (lv_at hl 3 rfl) ?_
        refine pb_go_x (bc' := 0) (bs' := 0) (pb_runV (rest := [.ref (o)]) C hG (met_X3_has l o S ⟨hz, hO, hA1, hA2, hA3, hA4, hA5, hA6, hA7, hA8, hA9, hA10, hA11, hA12⟩ s hs hb x y hx hy) hO.r (ci := 2) rfl (lw_V q1875 q1877 qs35 q60 q1878) ⟨rfl, hdX3_has⟩ rfl hl.1 rfl (Nat.le_of_ble_eq_true rfl) ⟨(Nat.le_of_ble_eq_true rfl), (Nat.le_of_ble_eq_true rfl)⟩ dX3_keepPart_36) (by omega) (by omega) ?_
        refine pb_ifB_ne C dX3_keepPart_39 (tgt := 46) (by decide) (fun c39_ => ?_) (fun c39_ => ?_)
        · rw [show gc (mg S s) x y = false from hc] at c39_; cases c39_
        · refine pb_ic C dX3_keepPart_42 ?_
          refine pb_goto C dX3_keepPart_43 (tgt := 47) (by decide) ?_
          refine pb_put C in_X3 tyX3 tyX3_ok nmX3 hO (ci := 2) rfl 0 (by decide) q1737 (fun _ h9 => h9) rfl (v := .int (iZ (3))) rfl rfl (Nat.le_of_ble_eq_true rfl) (by omega) dX3_keepPart_47 fun H1_ hu_ hO => ?_
          have hO : pb_O w H1_ (o) 2 [.int (iZ (3)), .int (iZ ((S.1 1))), .ref (o + 1), .ref (o + 2), .ref (o + 3), .ref (o + 4), .ref (o + 5), .ref (o + 6), .ref (o + 7), .ref (o + 8), .ref (o + 9), .ref (o + 10), .ref (o + 11), .ref (o + 12), .int (iZ ((S.1 2))), .int (iZ ((S.1 3)))] := hO
          have hG := hG.kept (hu_.z (by omega))
          have hA1 := hA1.kept (hu_.2 _ (by omega))
          have hA2 := hA2.kept (hu_.2 _ (by omega))
          have hA3 := hA3.kept (hu_.2 _ (by omega))
          have hA4 := hA4.kept (hu_.2 _ (by omega))
          have hA5 := hA5.kept (hu_.2 _ (by omega))
          have hA6 := hA6.kept (hu_.2 _ (by omega))
          have hA7 := hA7.kept (hu_.2 _ (by omega))
          have hA8 := hA8.kept (hu_.2 _ (by omega))
          have hA9 := hA9.kept (hu_.2 _ (by omega))
          have hA10 := hA10.kept (hu_.2 _ (by omega))
          have hA11 := hA11.kept (hu_.2 _ (by omega))
          have hA12 := hA12.kept (hu_.2 _ (by omega))
          have hF := hF.up hu_ (by omega)
          refine pb_aload_n C dX3_keepPart_50 rfl (lv_at hl 0 rfl) ?_
          refine pb_get C in_X3 hO.r (ci := 2) rfl 0 (by decide) q1737 (fun _ h9 => h9) (v := .int (iZ (3))) rfl dX3_keepPart_51 ?_
          refine pb_if_eq C dX3_keepPart_54 (x := 3) (tgt := 59) (by decide) (by omega) (fun c54_ => ?_) (fun c54_ => ?_)
          · exact absurd c54_ (by decide)
          · refine pb_ic C dX3_keepPart_57 ?_
            exact pb_iret C dX3_keepPart_58 (⟨_, rfl, rfl, ⟨hz, hO, hA1, hA2, hA3, hA4, hA5, hA6, hA7, hA8, hA9, hA10, hA11, hA12⟩, hF⟩)
      · have c25_ := of_decide_eq_false c25_
        omega
    · have c13_ := of_decide_eq_false c13_
      omega

