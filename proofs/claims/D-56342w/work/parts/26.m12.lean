set_option maxRecDepth 100000
set_option maxHeartbeats 1000000 in
theorem met_X3_outlinesOf {w : pb_W} (l : Launch) {H0 : Heap} (o : Nat) (S : mS) (hM : MW w H0 o S) (s : Nat) (hs : s < 8) (hb : mok S) : pb_M w l yX3_outlinesOf cX3_outlinesOf 4 none 6 (0) (0) [.ref (o), .int (iZ (((s : Nat) : Int)))] H0 (pb_qv (fun H1 => ∃ W cx cy bg ar on cn, MW w H1 o (mT S W cx cy bg ar ((on : Nat) : Int) ((cn : Nat) : Int)) ∧ TI (mg S s) 2500 W cx cy bg ar on cn ∧ mF o H0 H1)) := by
  refine pb_of (by decide +kernel) (Nat.le_of_ble_eq_true rfl) ?_
  intro p_ e_ s_ m_ ar_ bl_ me_ co_ ls C hh hG hl
  have hl : lv_has ls 4 [(0, .ref (o)), (1, .int (iZ (((s : Nat) : Int))))] := hl
  have hM0 := hM; obtain ⟨hz, hO, hA1, hA2, hA3, hA4, hA5, hA6, hA7, hA8, hA9, hA10, hA11, hA12⟩ := hM0
  have hF : mF o H0 H0 := mF.rf
  have L34 : ∀ (n_ : Nat) (k on cn : Nat) (W : Nat → Nat) (cx cy bg ar : Nat → Int) (H : Heap), 625 - k = n_ → (pb_G w s_ H) → (MW w H o (mT S W cx cy bg ar ((on : Nat) : Int) ((cn : Nat) : Int))) → (mF o H0 H) → (k ≤ 625) → (TI (mg S s) (4 * k) W cx cy bg ar on cn) → ∀ (ls : Array Slot), lv_has ls 4 [(0, .ref (o)), (1, .int (iZ (((s : Nat) : Int)))), (2, .int (iZ (((k : Nat) : Int))))] → pb_V w.2.2.2 p_ l e_ (pb_rm 6 (0) (0)) s_ m_ ar_ bl_ me_ co_ H (0) (0) (pb_E w bl_ ar_ s_ (0) (0) (pb_qv (fun H1 => ∃ W cx cy bg ar on cn, MW w H1 o (mT S W cx cy bg ar ((on : Nat) : Int) ((cn : Nat) : Int)) ∧ TI (mg S s) 2500 W cx cy bg ar on cn ∧ mF o H0 H1))) (F0 m_ 34 ls []) := by
    intro n_
    induction n_ using Nat.strongRecOn with
    | _ n_ ih34 =>
    intro k on cn W cx cy bg ar H hm_ hG hM hF hk hTI ls hl
    have hM0 := hM; obtain ⟨hz, hO, hA1, hA2, hA3, hA4, hA5, hA6, hA7, hA8, hA9, hA10, hA11, hA12⟩ := hM0
    have hO : pb_O w H o 2 [.int (iZ ((S.1 0))), .int (iZ ((S.1 1))), .ref (o + 1), .ref (o + 2), .ref (o + 3), .ref (o + 4), .ref (o + 5), .ref (o + 6), .ref (o + 7), .ref (o + 8), .ref (o + 9), .ref (o + 10), .ref (o + 11), .ref (o + 12), .int (iZ (((on : Nat) : Int))), .int (iZ (((cn : Nat) : Int)))] := hO
    have hA1 : pb_A w H (o + 1) 0 192 (pb_nf (S.2.1 0)) := hA1
    have hA2 : pb_A w H (o + 2) 0 24 (pb_nf (S.2.1 1)) := hA2
    have hA3 : pb_A w H (o + 3) 0 26 (pb_nf (S.2.1 2)) := hA3
    have hA4 : pb_A w H (o + 4) 0 26 (pb_nf (S.2.1 3)) := hA4
    have hA5 : pb_A w H (o + 5) 0 40 (pb_zf (S.2.2 0)) := hA5
    have hA6 : pb_A w H (o + 6) 0 40 (pb_zf (S.2.2 1)) := hA6
    have hA7 : pb_A w H (o + 7) 0 576 (pb_zf (S.2.2 2)) := hA7
    have hA8 : pb_A w H (o + 8) 0 1300 (pb_zf (cx)) := hA8
    have hA9 : pb_A w H (o + 9) 0 1300 (pb_zf (cy)) := hA9
    have hA10 : pb_A w H (o + 10) 0 400 (pb_zf (bg)) := hA10
    have hA11 : pb_A w H (o + 11) 0 400 (pb_zf (ar)) := hA11
    have hA12 : pb_A w H (o + 12) 0 625 (pb_nf (W)) := hA12
    have L43 : ∀ (n_ : Nat) (a on cn : Nat) (W : Nat → Nat) (cx cy bg ar : Nat → Int) (H : Heap), 4 - a = n_ → (pb_G w s_ H) → (MW w H o (mT S W cx cy bg ar ((on : Nat) : Int) ((cn : Nat) : Int))) → (mF o H0 H) → (k < 625) → (a ≤ 4) → (TI (mg S s) (4 * k + a) W cx cy bg ar on cn) → ∀ (ls : Array Slot), lv_has ls 4 [(0, .ref (o)), (1, .int (iZ (((s : Nat) : Int)))), (2, .int (iZ (((k : Nat) : Int)))), (3, .int (iZ (((a : Nat) : Int))))] → pb_V w.2.2.2 p_ l e_ (pb_rm 6 (0) (0)) s_ m_ ar_ bl_ me_ co_ H (0) (0) (pb_E w bl_ ar_ s_ (0) (0) (pb_qv (fun H1 => ∃ W cx cy bg ar on cn, MW w H1 o (mT S W cx cy bg ar ((on : Nat) : Int) ((cn : Nat) : Int)) ∧ TI (mg S s) 2500 W cx cy bg ar on cn ∧ mF o H0 H1))) (F0 m_ 43 ls []) := by
      intro n_
      induction n_ using Nat.strongRecOn with
      | _ n_ ih43 =>
      intro a on cn W cx cy bg ar H hm_ hG hM hF hk2 ha hTI ls hl
      have hM0 := hM; obtain ⟨hz, hO, hA1, hA2, hA3, hA4, hA5, hA6, hA7, hA8, hA9, hA10, hA11, hA12⟩ := hM0
      have hO : pb_O w H o 2 [.int (iZ ((S.1 0))), .int (iZ ((S.1 1))), .ref (o + 1), .ref (o + 2), .ref (o + 3), .ref (o + 4), .ref (o + 5), .ref (o + 6), .ref (o + 7), .ref (o + 8), .ref (o + 9), .ref (o + 10), .ref (o + 11), .ref (o + 12), .int (iZ (((on : Nat) : Int))), .int (iZ (((cn : Nat) : Int)))] := hO
      have hA1 : pb_A w H (o + 1) 0 192 (pb_nf (S.2.1 0)) := hA1
      have hA2 : pb_A w H (o + 2) 0 24 (pb_nf (S.2.1 1)) := hA2
      have hA3 : pb_A w H (o + 3) 0 26 (pb_nf (S.2.1 2)) := hA3
      have hA4 : pb_A w H (o + 4) 0 26 (pb_nf (S.2.1 3)) := hA4
      have hA5 : pb_A w H (o + 5) 0 40 (pb_zf (S.2.2 0)) := hA5
      have hA6 : pb_A w H (o + 6) 0 40 (pb_zf (S.2.2 1)) := hA6
      have hA7 : pb_A w H (o + 7) 0 576 (pb_zf (S.2.2 2)) := hA7
      have hA8 : pb_A w H (o + 8) 0 1300 (pb_zf (cx)) := hA8
      have hA9 : pb_A w H (o + 9) 0 1300 (pb_zf (cy)) := hA9
      have hA10 : pb_A w H (o + 10) 0 400 (pb_zf (bg)) := hA10
      have hA11 : pb_A w H (o + 11) 0 400 (pb_zf (ar)) := hA11
      have hA12 : pb_A w H (o + 12) 0 625 (pb_nf (W)) := hA12
      refine pb_iload_n C dX3_outlinesOf_43 rfl (lv_at hl 3 rfl) ?_
      refine pb_ic C dX3_outlinesOf_44 ?_
      refine pb_icmp_ge C dX3_outlinesOf_45 (x := ((a : Nat) : Int)) (y := 4) (tgt := 101) (by decide) (by omega) (by omega) (fun c45_ => ?_) (fun c45_ => ?_)
      · obtain rfl : a = 4 := by omega
        refine pb_iinc C dX3_outlinesOf_101 hl (j := 2) (x := (((k : Nat) : Int))) rfl (by decide) rfl fun ls hl => ?_
        have hl : lv_has ls 4 [(2, .int (iZ ((((k + 1) : Nat) : Int)))), (0, .ref (o)), (1, .int (iZ (((s : Nat) : Int)))), (3, .int (iZ (((4 : Nat) : Int))))] := hl
        refine pb_goto C dX3_outlinesOf_104 (tgt := 34) (by decide) ?_
        exact pb_V.mono (by omega) (by omega) (ih34 _ (by omega) (k + 1) on cn W cx cy bg ar H rfl hG hM hF (by omega) (by rw [show 4 * (k + 1) = 4 * k + 4 by omega]; exact hTI) ls (lv_sub hl [1, 2, 0] rfl))
      · have hlj := lj_eq (k := k) (a := a) (by omega)
        have hr : rng (lj (4 * k + a)) := by rw [hlj]; exact ⟨by show k % 25 ≤ 24; omega, by show k / 25 ≤ 24; omega, by show a < 4; omega⟩
        refine pb_aload_n C dX3_outlinesOf_48 rfl (lv_at hl 0 rfl) ?_
        refine pb_iload_n C dX3_outlinesOf_49 rfl (lv_at hl 1 rfl) ?_
        refine pb_iload_n C dX3_outlinesOf_50 rfl (lv_at hl 2 rfl) ?_
        refine pb_bip C dX3_outlinesOf_51 (by decide) ?_
        refine pb_irem C dX3_outlinesOf_53 (x := ((k : Nat) : Int)) (y := 25) (by omega) (by omega) (by omega) ?_
        refine pb_iload_n C dX3_outlinesOf_54 rfl (lv_at hl 2 rfl) ?_
        refine pb_bip C dX3_outlinesOf_55 (by decide) ?_
        refine pb_idiv C dX3_outlinesOf_57 (x := ((k : Nat) : Int)) (y := 25) (by omega) (by omega) (by omega) ?_
        refine pb_iload_n C dX3_outlinesOf_58 rfl (lv_at hl 3 rfl) ?_
        refine pb_go_x (bc' := 0) (bs' := 0) (pb_runV (rest := []) C hG (met_X3_leads l o (mT S W cx cy bg ar ((on : Nat) : Int) ((cn : Nat) : Int)) hM s hs hb ((k % 25 : Nat) : Int) ((k / 25 : Nat) : Int) (by omega) (by omega) a (by omega)) hO.r (ci := 2) rfl (lw_V q2055 q2057 qs45 q60 q2058) ⟨rfl, hdX3_leads⟩ rfl hl.1 rfl (Nat.le_of_ble_eq_true rfl) ⟨(Nat.le_of_ble_eq_true rfl), (Nat.le_of_ble_eq_true rfl)⟩ dX3_outlinesOf_59) (by omega) (by omega) ?_
        refine pb_ifB_eq C dX3_outlinesOf_62 (tgt := 95) (by decide) (fun c62_ => ?_) (fun c62_ => ?_)
        · have hTI1 := TI_skip hTI hr (fun z => by rw [hlj] at z; exact absurd z.1.2.2.2 (Bool.eq_false_iff.mp c62_))
          refine pb_iinc C dX3_outlinesOf_95 hl (j := 3) (x := (((a : Nat) : Int))) rfl (by decide) rfl fun ls hl => ?_
          have hl : lv_has ls 4 [(3, .int (iZ ((((a + 1) : Nat) : Int)))), (0, .ref (o)), (1, .int (iZ (((s : Nat) : Int)))), (2, .int (iZ (((k : Nat) : Int))))] := hl
          refine pb_goto C dX3_outlinesOf_98 (tgt := 43) (by decide) ?_
          exact pb_V.mono (by omega) (by omega) (ih43 _ (by omega) (a + 1) on cn W cx cy bg ar H rfl hG hM hF (by omega) (by omega) hTI1 ls (lv_sub hl [1, 2, 3, 0] rfl))
        · refine pb_aload_n C dX3_outlinesOf_65 rfl (lv_at hl 0 rfl) ?_
          refine pb_iload_n C dX3_outlinesOf_66 rfl (lv_at hl 2 rfl) ?_
          refine pb_bip C dX3_outlinesOf_67 (by decide) ?_
          refine pb_irem C dX3_outlinesOf_69 (x := ((k : Nat) : Int)) (y := 25) (by omega) (by omega) (by omega) ?_
          refine pb_iload_n C dX3_outlinesOf_70 rfl (lv_at hl 2 rfl) ?_
          refine pb_bip C dX3_outlinesOf_71 (by decide) ?_
          refine pb_idiv C dX3_outlinesOf_73 (x := ((k : Nat) : Int)) (y := 25) (by omega) (by omega) (by omega) ?_
          refine pb_iload_n C dX3_outlinesOf_74 rfl (lv_at hl 3 rfl) ?_
          refine pb_go_x (bc' := 0) (bs' := 0) (pb_runV (rest := []) C hG (met_X3_isWalked l o (mT S W cx cy bg ar ((on : Nat) : Int) ((cn : Nat) : Int)) hM (k % 25) (k / 25) a (by omega) (by omega) (by omega) hTI.1) hO.r (ci := 2) rfl (lw_V q2059 q2061 qs46 q60 q2062) ⟨rfl, hdX3_isWalked⟩ rfl hl.1 rfl (Nat.le_of_ble_eq_true rfl) ⟨(Nat.le_of_ble_eq_true rfl), (Nat.le_of_ble_eq_true rfl)⟩ dX3_outlinesOf_75) (by omega) (by omega) ?_
          refine pb_ifB_ne C dX3_outlinesOf_78 (tgt := 95) (by decide) (fun c78_ => ?_) (fun c78_ => ?_)
          · have hTI1 := TI_skip hTI hr (fun z => by rw [hlj] at z; exact z.2 c78_)
            refine pb_iinc C dX3_outlinesOf_95 hl (j := 3) (x := (((a : Nat) : Int))) rfl (by decide) rfl fun ls hl => ?_
            have hl : lv_has ls 4 [(3, .int (iZ ((((a + 1) : Nat) : Int)))), (0, .ref (o)), (1, .int (iZ (((s : Nat) : Int)))), (2, .int (iZ (((k : Nat) : Int))))] := hl
            refine pb_goto C dX3_outlinesOf_98 (tgt := 43) (by decide) ?_
            exact pb_V.mono (by omega) (by omega) (ih43 _ (by omega) (a + 1) on cn W cx cy bg ar H rfl hG hM hF (by omega) (by omega) hTI1 ls (lv_sub hl [1, 2, 3, 0] rfl))
          · have hd : lok (mg S s) (k % 25, k / 25, a) := ⟨by show k % 25 ≤ 24; omega, by show k / 25 ≤ 24; omega, by show a < 4; omega, c62_⟩
            refine pb_aload_n C dX3_outlinesOf_81 rfl (lv_at hl 0 rfl) ?_
            refine pb_iload_n C dX3_outlinesOf_82 rfl (lv_at hl 1 rfl) ?_
            refine pb_iload_n C dX3_outlinesOf_83 rfl (lv_at hl 2 rfl) ?_
            refine pb_bip C dX3_outlinesOf_84 (by decide) ?_
            refine pb_irem C dX3_outlinesOf_86 (x := ((k : Nat) : Int)) (y := 25) (by omega) (by omega) (by omega) ?_
            refine pb_iload_n C dX3_outlinesOf_87 rfl (lv_at hl 2 rfl) ?_
            refine pb_bip C dX3_outlinesOf_88 (by decide) ?_
            refine pb_idiv C dX3_outlinesOf_90 (x := ((k : Nat) : Int)) (y := 25) (by omega) (by omega) (by omega) ?_
            refine pb_iload_n C dX3_outlinesOf_91 rfl (lv_at hl 3 rfl) ?_
            refine pb_go_v (bc' := 0) (bs' := 0) (pb_runV (rest := []) C hG (met_X3_walks l o S W cx cy bg ar on cn hM s hs hb (4 * k + a) (k % 25) (k / 25) a hTI hlj hd (Bool.eq_false_iff.mp c78_)) hO.r (ci := 2) rfl (lw_V q2063 q2065 qs47 q60 q2066) ⟨rfl, hdX3_walks⟩ rfl hl.1 rfl (Nat.le_of_ble_eq_true rfl) ⟨(Nat.le_of_ble_eq_true rfl), (Nat.le_of_ble_eq_true rfl)⟩ dX3_outlinesOf_92) (by omega) (by omega) (fun H_ hp_ => ?_)
            obtain ⟨W1, cx1, cy1, bg1, ar1, cn1, hM, hTI1, hF2⟩ := hp_
            have hG := hG.kept (hF2.z hz)
            have hF := hF.tr hF2
            refine pb_iinc C dX3_outlinesOf_95 hl (j := 3) (x := (((a : Nat) : Int))) rfl (by decide) rfl fun ls hl => ?_
            have hl : lv_has ls 4 [(3, .int (iZ ((((a + 1) : Nat) : Int)))), (0, .ref (o)), (1, .int (iZ (((s : Nat) : Int)))), (2, .int (iZ (((k : Nat) : Int))))] := hl
            refine pb_goto C dX3_outlinesOf_98 (tgt := 43) (by decide) ?_
            exact pb_V.mono (by omega) (by omega) (ih43 _ (by omega) (a + 1) (on + 1) cn1 W1 cx1 cy1 bg1 ar1 H_ rfl hG hM hF (by omega) (by omega) hTI1 ls (lv_sub hl [1, 2, 3, 0] rfl))
    refine pb_iload_n C dX3_outlinesOf_34 rfl (lv_at hl 2 rfl) ?_
    refine pb_sip C dX3_outlinesOf_35 (by decide) ?_
    refine pb_icmp_ge C dX3_outlinesOf_38 (x := ((k : Nat) : Int)) (y := 625) (tgt := 107) (by decide) (by omega) (by omega) (fun c38_ => ?_) (fun c38_ => ?_)
    · obtain rfl : k = 625 := by omega
      exact pb_vret C dX3_outlinesOf_107 (⟨rfl, W, cx, cy, bg, ar, on, cn, hM, hTI, hF⟩)
    · refine pb_ic C dX3_outlinesOf_41 ?_
      refine pb_istore_n C dX3_outlinesOf_42 rfl hl (by decide) rfl fun ls hl => ?_
      have hl : lv_has ls 4 [(3, .int (iZ (0))), (0, .ref (o)), (1, .int (iZ (((s : Nat) : Int)))), (2, .int (iZ (((k : Nat) : Int))))] := hl
      exact pb_V.mono (by omega) (by omega) (L43 _ 0 on cn W cx cy bg ar H rfl hG hM hF (by omega) (by omega) hTI ls (lv_sub hl [1, 2, 3, 0] rfl))
  have L12 : ∀ (n_ : Nat) (k : Nat) (H : Heap), 625 - k = n_ → (pb_G w s_ H) → (MW w H o (mB (mI (mI S 2 0) 3 0) 4 (mdR (fun _ => 0) (S.2.1 4) k))) → (mF o H0 H) → (k ≤ 625) → ∀ (ls : Array Slot), lv_has ls 4 [(0, .ref (o)), (1, .int (iZ (((s : Nat) : Int)))), (2, .int (iZ (((k : Nat) : Int))))] → pb_V w.2.2.2 p_ l e_ (pb_rm 6 (0) (0)) s_ m_ ar_ bl_ me_ co_ H (0) (0) (pb_E w bl_ ar_ s_ (0) (0) (pb_qv (fun H1 => ∃ W cx cy bg ar on cn, MW w H1 o (mT S W cx cy bg ar ((on : Nat) : Int) ((cn : Nat) : Int)) ∧ TI (mg S s) 2500 W cx cy bg ar on cn ∧ mF o H0 H1))) (F0 m_ 12 ls []) := by
    intro n_
    induction n_ using Nat.strongRecOn with
    | _ n_ ih12 =>
    intro k H hm_ hG hM hF hk ls hl
    have hM0 := hM; obtain ⟨hz, hO, hA1, hA2, hA3, hA4, hA5, hA6, hA7, hA8, hA9, hA10, hA11, hA12⟩ := hM0
    have hO : pb_O w H o 2 [.int (iZ ((S.1 0))), .int (iZ ((S.1 1))), .ref (o + 1), .ref (o + 2), .ref (o + 3), .ref (o + 4), .ref (o + 5), .ref (o + 6), .ref (o + 7), .ref (o + 8), .ref (o + 9), .ref (o + 10), .ref (o + 11), .ref (o + 12), .int (iZ ((0))), .int (iZ ((0)))] := hO
    have hA1 : pb_A w H (o + 1) 0 192 (pb_nf (S.2.1 0)) := hA1
    have hA2 : pb_A w H (o + 2) 0 24 (pb_nf (S.2.1 1)) := hA2
    have hA3 : pb_A w H (o + 3) 0 26 (pb_nf (S.2.1 2)) := hA3
    have hA4 : pb_A w H (o + 4) 0 26 (pb_nf (S.2.1 3)) := hA4
    have hA5 : pb_A w H (o + 5) 0 40 (pb_zf (S.2.2 0)) := hA5
    have hA6 : pb_A w H (o + 6) 0 40 (pb_zf (S.2.2 1)) := hA6
    have hA7 : pb_A w H (o + 7) 0 576 (pb_zf (S.2.2 2)) := hA7
    have hA8 : pb_A w H (o + 8) 0 1300 (pb_zf (S.2.2 3)) := hA8
    have hA9 : pb_A w H (o + 9) 0 1300 (pb_zf (S.2.2 4)) := hA9
    have hA10 : pb_A w H (o + 10) 0 400 (pb_zf (S.2.2 5)) := hA10
    have hA11 : pb_A w H (o + 11) 0 400 (pb_zf (S.2.2 6)) := hA11
    have hA12 : pb_A w H (o + 12) 0 625 (pb_nf (mdR (fun _ => 0) (S.2.1 4) k)) := hA12
    refine pb_iload_n C dX3_outlinesOf_12 rfl (lv_at hl 2 rfl) ?_
    refine pb_sip C dX3_outlinesOf_13 (by decide) ?_
    refine pb_icmp_ge C dX3_outlinesOf_16 (x := ((k : Nat) : Int)) (y := 625) (tgt := 32) (by decide) (by omega) (by omega) (fun c16_ => ?_) (fun c16_ => ?_)
    · obtain rfl : k = 625 := by omega
      refine pb_ic C dX3_outlinesOf_32 ?_
      refine pb_istore_n C dX3_outlinesOf_33 rfl hl (by decide) rfl fun ls hl => ?_
      have hl : lv_has ls 4 [(2, .int (iZ (0))), (0, .ref (o)), (1, .int (iZ (((s : Nat) : Int))))] := hl
      exact pb_V.mono (by omega) (by omega) (L34 _ 0 0 0 (mdR (fun _ => 0) (S.2.1 4) 625) (S.2.2 3) (S.2.2 4) (S.2.2 5) (S.2.2 6) H rfl hG ⟨hz, hO, hA1, hA2, hA3, hA4, hA5, hA6, hA7, hA8, hA9, hA10, hA11, hA12⟩ hF (by omega) (TI_0 (fun i hi => if_pos hi)) ls (lv_sub hl [1, 2, 0] rfl))
    · refine pb_aload_n C dX3_outlinesOf_19 rfl (lv_at hl 0 rfl) ?_
      refine pb_get C in_X3 hO.r (ci := 2) rfl 13 (by decide) q1750 (fun _ h9 => h9) (v := .ref (o + 12)) rfl dX3_outlinesOf_20 ?_
      refine pb_iload_n C dX3_outlinesOf_23 rfl (lv_at hl 2 rfl) ?_
      refine pb_ic C dX3_outlinesOf_24 ?_
      refine pb_iast C hA12 (i := ((k : Nat) : Int)) (by omega) (by omega) dX3_outlinesOf_25 fun H1_ hu_ hA12 => ?_
      rw [show (Value.int (iZ 0)) = Value.int (iZ ((0 : Nat) : Int)) from rfl, pb_upN, Int.toNat_natCast, mdR_step (fun _ => 0) (S.2.1 4) k rfl] at hA12
      have hG := hG.kept (hu_.z (by omega))
      have hO := hO.kept (hu_.2 _ (by omega))
      have hA1 := hA1.kept (hu_.2 _ (by omega))
      have hA2 := hA2.kept (hu_.2 _ (by omega))
      have hA3 := hA3.kept (hu_.2 _ (by omega))
      have hA4 := hA4.kept (hu_.2 _ (by omega))
      have hA5 := hA5.kept (hu_.2 _ (by omega))
      have hA6 := hA6.kept (hu_.2 _ (by omega))
      have hA7 := hA7.kept (hu_.2 _ (by omega))
      have hA8 := hA8.kept (hu_.2 _ (by omega))
      have hA9 := hA9.kept (hu_.2 _ (by omega))
      have hA10 := hA10.kept (hu_.2 _ (by omega))
      have hA11 := hA11.kept (hu_.2 _ (by omega))
      have hF := hF.up hu_ (by omega)
      refine pb_iinc C dX3_outlinesOf_26 hl (j := 2) (x := (((k : Nat) : Int))) rfl (by decide) rfl fun ls hl => ?_
      have hl : lv_has ls 4 [(2, .int (iZ ((((k + 1) : Nat) : Int)))), (0, .ref (o)), (1, .int (iZ (((s : Nat) : Int))))] := hl
      refine pb_goto C dX3_outlinesOf_29 (tgt := 12) (by decide) ?_
      exact pb_V.mono (by omega) (by omega) (ih12 _ (by omega) (k + 1) H1_ rfl hG ⟨hz, hO, hA1, hA2, hA3, hA4, hA5, hA6, hA7, hA8, hA9, hA10, hA11, hA12⟩ hF (by omega) ls (lv_sub hl [1, 2, 0] rfl))
  refine pb_aload_n C dX3_outlinesOf_0 rfl (lv_at hl 0 rfl) ?_
  refine pb_ic C dX3_outlinesOf_1 ?_
  refine pb_put C in_X3 tyX3 tyX3_ok nmX3 hO (ci := 2) rfl 14 (by decide) q1751 (fun _ h9 => h9) rfl (v := .int (iZ (0))) rfl rfl (Nat.le_of_ble_eq_true rfl) (by omega) dX3_outlinesOf_2 fun H2_ hu_ hO => ?_
  have hO : pb_O w H2_ (o) 2 [.int (iZ ((S.1 0))), .int (iZ ((S.1 1))), .ref (o + 1), .ref (o + 2), .ref (o + 3), .ref (o + 4), .ref (o + 5), .ref (o + 6), .ref (o + 7), .ref (o + 8), .ref (o + 9), .ref (o + 10), .ref (o + 11), .ref (o + 12), .int (iZ (0)), .int (iZ ((S.1 3)))] := hO
  have hG := hG.kept (hu_.z (by omega))
  have hA1 := hA1.kept (hu_.2 _ (by omega))
  have hA2 := hA2.kept (hu_.2 _ (by omega))
  have hA3 := hA3.kept (hu_.2 _ (by omega))
  have hA4 := hA4.kept (hu_.2 _ (by omega))
  have hA5 := hA5.kept (hu_.2 _ (by omega))
  have hA6 := hA6.kept (hu_.2 _ (by omega))
  have hA7 := hA7.kept (hu_.2 _ (by omega))
  have hA8 := hA8.kept (hu_.2 _ (by omega))
  have hA9 := hA9.kept (hu_.2 _ (by omega))
  have hA10 := hA10.kept (hu_.2 _ (by omega))
  have hA11 := hA11.kept (hu_.2 _ (by omega))
  have hA12 := hA12.kept (hu_.2 _ (by omega))
  have hF := hF.up hu_ (by omega)
  refine pb_aload_n C dX3_outlinesOf_5 rfl (lv_at hl 0 rfl) ?_
  refine pb_ic C dX3_outlinesOf_6 ?_
  refine pb_put C in_X3 tyX3 tyX3_ok nmX3 hO (ci := 2) rfl 15 (by decide) q1752 (fun _ h9 => h9) rfl (v := .int (iZ (0))) rfl rfl (Nat.le_of_ble_eq_true rfl) (by omega) dX3_outlinesOf_7 fun H3_ hu_ hO => ?_
  have hO : pb_O w H3_ (o) 2 [.int (iZ ((S.1 0))), .int (iZ ((S.1 1))), .ref (o + 1), .ref (o + 2), .ref (o + 3), .ref (o + 4), .ref (o + 5), .ref (o + 6), .ref (o + 7), .ref (o + 8), .ref (o + 9), .ref (o + 10), .ref (o + 11), .ref (o + 12), .int (iZ (0)), .int (iZ (0))] := hO
  have hG := hG.kept (hu_.z (by omega))
  have hA1 := hA1.kept (hu_.2 _ (by omega))
  have hA2 := hA2.kept (hu_.2 _ (by omega))
  have hA3 := hA3.kept (hu_.2 _ (by omega))
  have hA4 := hA4.kept (hu_.2 _ (by omega))
  have hA5 := hA5.kept (hu_.2 _ (by omega))
  have hA6 := hA6.kept (hu_.2 _ (by omega))
  have hA7 := hA7.kept (hu_.2 _ (by omega))
  have hA8 := hA8.kept (hu_.2 _ (by omega))
  have hA9 := hA9.kept (hu_.2 _ (by omega))
  have hA10 := hA10.kept (hu_.2 _ (by omega))
  have hA11 := hA11.kept (hu_.2 _ (by omega))
  have hA12 := hA12.kept (hu_.2 _ (by omega))
  have hF := hF.up hu_ (by omega)
  refine pb_ic C dX3_outlinesOf_10 ?_
  refine pb_istore_n C dX3_outlinesOf_11 rfl hl (by decide) rfl fun ls hl => ?_
  have hl : lv_has ls 4 [(2, .int (iZ (0))), (0, .ref (o)), (1, .int (iZ (((s : Nat) : Int))))] := hl
  exact pb_V.mono (by omega) (by omega) (L12 _ 0 H3_ rfl hG (by rw [mdR_0]; exact ⟨hz, hO, hA1, hA2, hA3, hA4, hA5, hA6, hA7, hA8, hA9, hA10, hA11, hA12⟩) hF (by omega) ls (lv_sub hl [1, 2, 0] rfl))

set_option maxHeartbeats 1000000 in
theorem met_X3_outlineCount {w : pb_W} (l : Launch) {H0 : Heap} (o : Nat) (S : mS) (hM : MW w H0 o S) (s : Nat) (hs : s < 8) (hb : mok S) : pb_M w l yX3_outlineCount cX3_outlineCount 2 (some .int) 7 (0) (0) [.ref (o), .int (iZ (((s : Nat) : Int)))] H0 (pb_qi (fun z H1 => z = (((outs (mg S s) 2500).length : Nat) : Int) ∧ ∃ W cx cy bg ar on cn, TI (mg S s) 2500 W cx cy bg ar on cn ∧ MW w H1 o (mT (mI S 0 0) W cx cy bg ar ((on : Nat) : Int) ((cn : Nat) : Int)) ∧ mF o H0 H1)) := by
  refine pb_of (by decide +kernel) (Nat.le_of_ble_eq_true rfl) ?_
  intro p_ e_ s_ m_ ar_ bl_ me_ co_ ls C hh hG hl
  have hl : lv_has ls 2 [(0, .ref (o)), (1, .int (iZ (((s : Nat) : Int))))] := hl
  have hM0 := hM; obtain ⟨hz, hO, hA1, hA2, hA3, hA4, hA5, hA6, hA7, hA8, hA9, hA10, hA11, hA12⟩ := hM0
  have hF : mF o H0 H0 := mF.rf
  refine pb_aload_n C dX3_outlineCount_0 rfl (lv_at hl 0 rfl) ?_
  refine pb_iload_n C dX3_outlineCount_1 rfl (lv_at hl 1 rfl) ?_
  refine pb_go_i (bc' := 0) (bs' := 0) (pb_runV (rest := []) C hG (met_X3_looks l o S hM s hs) hO.r (ci := 2) rfl (lw_V q1937 q1939 qs40 q60 q1940) ⟨rfl, hdX3_looks⟩ rfl hl.1 rfl (Nat.le_of_ble_eq_true rfl) ⟨(Nat.le_of_ble_eq_true rfl), (Nat.le_of_ble_eq_true rfl)⟩ dX3_outlineCount_2) (by omega) (by omega) (fun z_ H_ hp_ => ?_)
  obtain ⟨rfl, hM, hF⟩ := hp_
  have hG := hG.kept (hF.z hz)
  have hO := hM.2.1
  refine pb_if_ne C dX3_outlineCount_5 (x := 1) (tgt := 10) (by decide) (by omega) (fun c5_ => ?_) (fun c5_ => ?_)
  · refine pb_aload_n C dX3_outlineCount_10 rfl (lv_at hl 0 rfl) ?_
    refine pb_iload_n C dX3_outlineCount_11 rfl (lv_at hl 1 rfl) ?_
    refine pb_go_v (bc' := 0) (bs' := 0) (pb_runV (rest := []) C hG (met_X3_outlinesOf l o (mI S 0 0) hM s hs hb) hO.r (ci := 2) rfl (lw_V q2051 q2053 qs44 q60 q2054) ⟨rfl, hdX3_outlinesOf⟩ rfl hl.1 rfl (Nat.le_of_ble_eq_true rfl) ⟨(Nat.le_of_ble_eq_true rfl), (Nat.le_of_ble_eq_true rfl)⟩ dX3_outlineCount_12) (by omega) (by omega) (fun H_ hp_ => ?_)
    obtain ⟨W, cx, cy, bg, ar, on, cn, hM, hTI, hF2⟩ := hp_
    have hG := hG.kept (hF2.z hz)
    have hF := hF.tr hF2
    have hTI : TI (mg S s) 2500 W cx cy bg ar on cn := hTI
    have hTb := TI_b hTI
    have hM0 := hM; obtain ⟨hz, hO, hA1, hA2, hA3, hA4, hA5, hA6, hA7, hA8, hA9, hA10, hA11, hA12⟩ := hM0
    have hO : pb_O w H_ o 2 [.int (iZ ((0))), .int (iZ ((S.1 1))), .ref (o + 1), .ref (o + 2), .ref (o + 3), .ref (o + 4), .ref (o + 5), .ref (o + 6), .ref (o + 7), .ref (o + 8), .ref (o + 9), .ref (o + 10), .ref (o + 11), .ref (o + 12), .int (iZ (((on : Nat) : Int))), .int (iZ (((cn : Nat) : Int)))] := hO
    have hA1 : pb_A w H_ (o + 1) 0 192 (pb_nf (S.2.1 0)) := hA1
    have hA2 : pb_A w H_ (o + 2) 0 24 (pb_nf (S.2.1 1)) := hA2
    have hA3 : pb_A w H_ (o + 3) 0 26 (pb_nf (S.2.1 2)) := hA3
    have hA4 : pb_A w H_ (o + 4) 0 26 (pb_nf (S.2.1 3)) := hA4
    have hA5 : pb_A w H_ (o + 5) 0 40 (pb_zf (S.2.2 0)) := hA5
    have hA6 : pb_A w H_ (o + 6) 0 40 (pb_zf (S.2.2 1)) := hA6
    have hA7 : pb_A w H_ (o + 7) 0 576 (pb_zf (S.2.2 2)) := hA7
    have hA8 : pb_A w H_ (o + 8) 0 1300 (pb_zf (cx)) := hA8
    have hA9 : pb_A w H_ (o + 9) 0 1300 (pb_zf (cy)) := hA9
    have hA10 : pb_A w H_ (o + 10) 0 400 (pb_zf (bg)) := hA10
    have hA11 : pb_A w H_ (o + 11) 0 400 (pb_zf (ar)) := hA11
    have hA12 : pb_A w H_ (o + 12) 0 625 (pb_nf (W)) := hA12
    refine pb_aload_n C dX3_outlineCount_15 rfl (lv_at hl 0 rfl) ?_
    refine pb_get C in_X3 hO.r (ci := 2) rfl 14 (by decide) q1751 (fun _ h9 => h9) (v := .int (iZ (((on : Nat) : Int)))) rfl dX3_outlineCount_16 ?_
    exact pb_iret C dX3_outlineCount_19 (⟨_, rfl, by rw [TI_len hTI], W, cx, cy, bg, ar, on, cn, hTI, hM, hF⟩)
  · exact absurd c5_ (by decide)

set_option maxHeartbeats 1000000 in
theorem met_X3_outlineCount_1 {w : pb_W} (l : Launch) {H0 : Heap} (o : Nat) (S : mS) (hM : MW w H0 o S) (s : Int) (hsr : -2147483648 ≤ s ∧ s ≤ 2147483647) (hs : ¬ (0 ≤ s ∧ s ≤ 7)) : pb_M w l yX3_outlineCount cX3_outlineCount 2 (some .int) 7 (0) (0) [.ref (o), .int (iZ (s))] H0 (pb_qi (fun z H1 => z = 0 ∧ MW w H1 o (mI S 0 1) ∧ mF o H0 H1)) := by
  refine pb_of (by decide +kernel) (Nat.le_of_ble_eq_true rfl) ?_
  intro p_ e_ s_ m_ ar_ bl_ me_ co_ ls C hh hG hl
  have hl : lv_has ls 2 [(0, .ref (o)), (1, .int (iZ (s)))] := hl
  have hM0 := hM; obtain ⟨hz, hO, hA1, hA2, hA3, hA4, hA5, hA6, hA7, hA8, hA9, hA10, hA11, hA12⟩ := hM0
  have hF : mF o H0 H0 := mF.rf
  refine pb_aload_n C dX3_outlineCount_0 rfl (lv_at hl 0 rfl) ?_
  refine pb_iload_n C dX3_outlineCount_1 rfl (lv_at hl 1 rfl) ?_
  refine pb_go_i (bc' := 0) (bs' := 0) (pb_runV (rest := []) C hG (met_X3_looks_1 l o S hM s hsr hs) hO.r (ci := 2) rfl (lw_V q1937 q1939 qs40 q60 q1940) ⟨rfl, hdX3_looks⟩ rfl hl.1 rfl (Nat.le_of_ble_eq_true rfl) ⟨(Nat.le_of_ble_eq_true rfl), (Nat.le_of_ble_eq_true rfl)⟩ dX3_outlineCount_2) (by omega) (by omega) (fun z_ H_ hp_ => ?_)
  obtain ⟨rfl, hM, hF⟩ := hp_
  refine pb_if_ne C dX3_outlineCount_5 (x := 0) (tgt := 10) (by decide) (by omega) (fun c5_ => ?_) (fun c5_ => ?_)
  · exact absurd c5_ (by decide)
  · refine pb_ic C dX3_outlineCount_8 ?_
    exact pb_iret C dX3_outlineCount_9 (⟨_, rfl, rfl, hM, hF⟩)

set_option maxHeartbeats 1000000 in
theorem met_X3_looksAtOutline {w : pb_W} (l : Launch) {H0 : Heap} (o : Nat) (S : mS) (hM : MW w H0 o S) (s : Nat) (hs : s < 8) (hb : mok S) (q : Nat) (hq : q < (outs (mg S s) 2500).length) : pb_M w l yX3_looksAtOutline cX3_looksAtOutline 3 (some .boolean) 7 (0) (0) [.ref (o), .int (iZ (((s : Nat) : Int))), .int (iZ (((q : Nat) : Int)))] H0 (pb_qi (fun z H1 => z = 1 ∧ ∃ W cx cy bg ar on cn, TI (mg S s) 2500 W cx cy bg ar on cn ∧ MW w H1 o (mT (mI S 0 0) W cx cy bg ar ((on : Nat) : Int) ((cn : Nat) : Int)) ∧ mF o H0 H1)) := by
  refine pb_of (by decide +kernel) (Nat.le_of_ble_eq_true rfl) ?_
  intro p_ e_ s_ m_ ar_ bl_ me_ co_ ls C hh hG hl
  have hl : lv_has ls 3 [(0, .ref (o)), (1, .int (iZ (((s : Nat) : Int)))), (2, .int (iZ (((q : Nat) : Int))))] := hl
  have hM0 := hM; obtain ⟨hz, hO, hA1, hA2, hA3, hA4, hA5, hA6, hA7, hA8, hA9, hA10, hA11, hA12⟩ := hM0
  have hF : mF o H0 H0 := mF.rf
  refine pb_aload_n C dX3_looksAtOutline_0 rfl (lv_at hl 0 rfl) ?_
  refine pb_iload_n C dX3_looksAtOutline_1 rfl (lv_at hl 1 rfl) ?_
  refine pb_go_i (bc' := 0) (bs' := 0) (pb_runV (rest := []) C hG (met_X3_looks l o S hM s hs) hO.r (ci := 2) rfl (lw_V q1937 q1939 qs40 q60 q1940) ⟨rfl, hdX3_looks⟩ rfl hl.1 rfl (Nat.le_of_ble_eq_true rfl) ⟨(Nat.le_of_ble_eq_true rfl), (Nat.le_of_ble_eq_true rfl)⟩ dX3_looksAtOutline_2) (by omega) (by omega) (fun z_ H_ hp_ => ?_)
  obtain ⟨rfl, hM, hF⟩ := hp_
  have hG := hG.kept (hF.z hz)
  have hO := hM.2.1
  refine pb_if_ne C dX3_looksAtOutline_5 (x := 1) (tgt := 10) (by decide) (by omega) (fun c5_ => ?_) (fun c5_ => ?_)
  · refine pb_aload_n C dX3_looksAtOutline_10 rfl (lv_at hl 0 rfl) ?_
    refine pb_iload_n C dX3_looksAtOutline_11 rfl (lv_at hl 1 rfl) ?_
    refine pb_go_v (bc' := 0) (bs' := 0) (pb_runV (rest := []) C hG (met_X3_outlinesOf l o (mI S 0 0) hM s hs hb) hO.r (ci := 2) rfl (lw_V q2051 q2053 qs44 q60 q2054) ⟨rfl, hdX3_outlinesOf⟩ rfl hl.1 rfl (Nat.le_of_ble_eq_true rfl) ⟨(Nat.le_of_ble_eq_true rfl), (Nat.le_of_ble_eq_true rfl)⟩ dX3_looksAtOutline_12) (by omega) (by omega) (fun H_ hp_ => ?_)
    obtain ⟨W, cx, cy, bg, ar, on, cn, hM, hTI, hF2⟩ := hp_
    have hG := hG.kept (hF2.z hz)
    have hF := hF.tr hF2
    have hTI : TI (mg S s) 2500 W cx cy bg ar on cn := hTI
    have hTb := TI_b hTI
    have hM0 := hM; obtain ⟨hz, hO, hA1, hA2, hA3, hA4, hA5, hA6, hA7, hA8, hA9, hA10, hA11, hA12⟩ := hM0
    have hO : pb_O w H_ o 2 [.int (iZ ((0))), .int (iZ ((S.1 1))), .ref (o + 1), .ref (o + 2), .ref (o + 3), .ref (o + 4), .ref (o + 5), .ref (o + 6), .ref (o + 7), .ref (o + 8), .ref (o + 9), .ref (o + 10), .ref (o + 11), .ref (o + 12), .int (iZ (((on : Nat) : Int))), .int (iZ (((cn : Nat) : Int)))] := hO
    have hA1 : pb_A w H_ (o + 1) 0 192 (pb_nf (S.2.1 0)) := hA1
    have hA2 : pb_A w H_ (o + 2) 0 24 (pb_nf (S.2.1 1)) := hA2
    have hA3 : pb_A w H_ (o + 3) 0 26 (pb_nf (S.2.1 2)) := hA3
    have hA4 : pb_A w H_ (o + 4) 0 26 (pb_nf (S.2.1 3)) := hA4
    have hA5 : pb_A w H_ (o + 5) 0 40 (pb_zf (S.2.2 0)) := hA5
    have hA6 : pb_A w H_ (o + 6) 0 40 (pb_zf (S.2.2 1)) := hA6
    have hA7 : pb_A w H_ (o + 7) 0 576 (pb_zf (S.2.2 2)) := hA7
    have hA8 : pb_A w H_ (o + 8) 0 1300 (pb_zf (cx)) := hA8
    have hA9 : pb_A w H_ (o + 9) 0 1300 (pb_zf (cy)) := hA9
    have hA10 : pb_A w H_ (o + 10) 0 400 (pb_zf (bg)) := hA10
    have hA11 : pb_A w H_ (o + 11) 0 400 (pb_zf (ar)) := hA11
    have hA12 : pb_A w H_ (o + 12) 0 625 (pb_nf (W)) := hA12
    refine pb_aload_n C dX3_looksAtOutline_15 rfl (lv_at hl 0 rfl) ?_
    refine pb_iload_n C dX3_looksAtOutline_16 rfl (lv_at hl 2 rfl) ?_
    refine pb_ic C dX3_looksAtOutline_17 ?_
    refine pb_aload_n C dX3_looksAtOutline_18 rfl (lv_at hl 0 rfl) ?_
    refine pb_get C in_X3 hO.r (ci := 2) rfl 14 (by decide) q1751 (fun _ h9 => h9) (v := .int (iZ (((on : Nat) : Int)))) rfl dX3_looksAtOutline_19 ?_
    refine pb_ic C dX3_looksAtOutline_22 ?_
    refine pb_isub C dX3_looksAtOutline_23 ?_
    have hln := TI_len hTI
    refine pb_go_x (bc' := 0) (bs' := 0) (pb_runS (rest := [.ref (o)]) C hG (met_X3_isIn l ((q : Nat) : Int) 0 (((on : Nat) : Int) - 1) (by omega) (by omega) (by omega)) (lw_S q1797 q1798 q60 q1799) hdX3_isIn rfl hl.1 rfl (Nat.le_of_ble_eq_true rfl) ⟨(Nat.le_of_ble_eq_true rfl), (Nat.le_of_ble_eq_true rfl)⟩ dX3_looksAtOutline_24) (by omega) (by omega) ?_
    refine pb_ifB_eq C dX3_looksAtOutline_27 (tgt := 34) (by decide) (fun c27_ => ?_) (fun c27_ => ?_)
    · have c27_ := of_decide_eq_false c27_
      omega
    · have c27_ := of_decide_eq_true c27_
      refine pb_ic C dX3_looksAtOutline_30 ?_
      refine pb_goto C dX3_looksAtOutline_31 (tgt := 35) (by decide) ?_
      refine pb_put C in_X3 tyX3 tyX3_ok nmX3 hO (ci := 2) rfl 0 (by decide) q1737 (fun _ h9 => h9) rfl (v := .int (iZ (0))) rfl rfl (Nat.le_of_ble_eq_true rfl) (by omega) dX3_looksAtOutline_35 fun H1_ hu_ hO => ?_
      have hO : pb_O w H1_ (o) 2 [.int (iZ (0)), .int (iZ ((S.1 1))), .ref (o + 1), .ref (o + 2), .ref (o + 3), .ref (o + 4), .ref (o + 5), .ref (o + 6), .ref (o + 7), .ref (o + 8), .ref (o + 9), .ref (o + 10), .ref (o + 11), .ref (o + 12), .int (iZ (((on : Nat) : Int))), .int (iZ (((cn : Nat) : Int)))] := hO
      have hG := hG.kept (hu_.z (by omega))
      have hA1 := hA1.kept (hu_.2 _ (by omega))
      have hA2 := hA2.kept (hu_.2 _ (by omega))
      have hA3 := hA3.kept (hu_.2 _ (by omega))
      have hA4 := hA4.kept (hu_.2 _ (by omega))
      have hA5 := hA5.kept (hu_.2 _ (by omega))
      have hA6 := hA6.kept (hu_.2 _ (by omega))
      have hA7 := hA7.kept (hu_.2 _ (by omega))
      have hA8 := hA8.kept (hu_.2 _ (by omega))
      have hA9 := hA9.kept (hu_.2 _ (by omega))
      have hA10 := hA10.kept (hu_.2 _ (by omega))
      have hA11 := hA11.kept (hu_.2 _ (by omega))
      have hA12 := hA12.kept (hu_.2 _ (by omega))
      have hF := hF.up hu_ (by omega)
      refine pb_aload_n C dX3_looksAtOutline_38 rfl (lv_at hl 0 rfl) ?_
      refine pb_get C in_X3 hO.r (ci := 2) rfl 0 (by decide) q1737 (fun _ h9 => h9) (v := .int (iZ (0))) rfl dX3_looksAtOutline_39 ?_
      refine pb_if_ne C dX3_looksAtOutline_42 (x := 0) (tgt := 49) (by decide) (by omega) (fun c42_ => ?_) (fun c42_ => ?_)
      · exact absurd c42_ (by decide)
      · refine pb_ic C dX3_looksAtOutline_45 ?_
        refine pb_goto C dX3_looksAtOutline_46 (tgt := 50) (by decide) ?_
        exact pb_zret C dX3_looksAtOutline_50 (by decide +kernel) (⟨_, rfl, rfl, W, cx, cy, bg, ar, on, cn, hTI, ⟨hz, hO, hA1, hA2, hA3, hA4, hA5, hA6, hA7, hA8, hA9, hA10, hA11, hA12⟩, hF⟩)
  · exact absurd c5_ (by decide)

set_option maxHeartbeats 1000000 in
theorem met_X3_looksAtOutline_2 {w : pb_W} (l : Launch) {H0 : Heap} (o : Nat) (S : mS) (hM : MW w H0 o S) (s : Nat) (hs : s < 8) (hb : mok S) (q : Int) (hqr : -2147483648 ≤ q ∧ q ≤ 2147483647) (hq : ¬ (0 ≤ q ∧ q < (((outs (mg S s) 2500).length : Nat) : Int))) : pb_M w l yX3_looksAtOutline cX3_looksAtOutline 3 (some .boolean) 7 (0) (0) [.ref (o), .int (iZ (((s : Nat) : Int))), .int (iZ (q))] H0 (pb_qi (fun z H1 => z = 0 ∧ ∃ W cx cy bg ar on cn, TI (mg S s) 2500 W cx cy bg ar on cn ∧ MW w H1 o (mT (mI S 0 2) W cx cy bg ar ((on : Nat) : Int) ((cn : Nat) : Int)) ∧ mF o H0 H1)) := by
  refine pb_of (by decide +kernel) (Nat.le_of_ble_eq_true rfl) ?_
  intro p_ e_ s_ m_ ar_ bl_ me_ co_ ls C hh hG hl
  have hl : lv_has ls 3 [(0, .ref (o)), (1, .int (iZ (((s : Nat) : Int)))), (2, .int (iZ (q)))] := hl
  have hM0 := hM; obtain ⟨hz, hO, hA1, hA2, hA3, hA4, hA5, hA6, hA7, hA8, hA9, hA10, hA11, hA12⟩ := hM0
  have hF : mF o H0 H0 := mF.rf
  refine pb_aload_n C dX3_looksAtOutline_0 rfl (lv_at hl 0 rfl) ?_
  refine pb_iload_n C dX3_looksAtOutline_1 rfl (lv_at hl 1 rfl) ?_
  refine pb_go_i (bc' := 0) (bs' := 0) (pb_runV (rest := []) C hG (met_X3_looks l o S hM s hs) hO.r (ci := 2) rfl (lw_V q1937 q1939 qs40 q60 q1940) ⟨rfl, hdX3_looks⟩ rfl hl.1 rfl (Nat.le_of_ble_eq_true rfl) ⟨(Nat.le_of_ble_eq_true rfl), (Nat.le_of_ble_eq_true rfl)⟩ dX3_looksAtOutline_2) (by omega) (by omega) (fun z_ H_ hp_ => ?_)
  obtain ⟨rfl, hM, hF⟩ := hp_
  have hG := hG.kept (hF.z hz)
  have hO := hM.2.1
  refine pb_if_ne C dX3_looksAtOutline_5 (x := 1) (tgt := 10) (by decide) (by omega) (fun c5_ => ?_) (fun c5_ => ?_)
  · refine pb_aload_n C dX3_looksAtOutline_10 rfl (lv_at hl 0 rfl) ?_
    refine pb_iload_n C dX3_looksAtOutline_11 rfl (lv_at hl 1 rfl) ?_
    refine pb_go_v (bc' := 0) (bs' := 0) (pb_runV (rest := []) C hG (met_X3_outlinesOf l o (mI S 0 0) hM s hs hb) hO.r (ci := 2) rfl (lw_V q2051 q2053 qs44 q60 q2054) ⟨rfl, hdX3_outlinesOf⟩ rfl hl.1 rfl (Nat.le_of_ble_eq_true rfl) ⟨(Nat.le_of_ble_eq_true rfl), (Nat.le_of_ble_eq_true rfl)⟩ dX3_looksAtOutline_12) (by omega) (by omega) (fun H_ hp_ => ?_)
    obtain ⟨W, cx, cy, bg, ar, on, cn, hM, hTI, hF2⟩ := hp_
    have hG := hG.kept (hF2.z hz)
    have hF := hF.tr hF2
    have hTI : TI (mg S s) 2500 W cx cy bg ar on cn := hTI
    have hTb := TI_b hTI
    have hM0 := hM; obtain ⟨hz, hO, hA1, hA2, hA3, hA4, hA5, hA6, hA7, hA8, hA9, hA10, hA11, hA12⟩ := hM0
    have hO : pb_O w H_ o 2 [.int (iZ ((0))), .int (iZ ((S.1 1))), .ref (o + 1), .ref (o + 2), .ref (o + 3), .ref (o + 4), .ref (o + 5), .ref (o + 6), .ref (o + 7), .ref (o + 8), .ref (o + 9), .ref (o + 10), .ref (o + 11), .ref (o + 12), .int (iZ (((on : Nat) : Int))), .int (iZ (((cn : Nat) : Int)))] := hO
    have hA1 : pb_A w H_ (o + 1) 0 192 (pb_nf (S.2.1 0)) := hA1
    have hA2 : pb_A w H_ (o + 2) 0 24 (pb_nf (S.2.1 1)) := hA2
    have hA3 : pb_A w H_ (o + 3) 0 26 (pb_nf (S.2.1 2)) := hA3
    have hA4 : pb_A w H_ (o + 4) 0 26 (pb_nf (S.2.1 3)) := hA4
    have hA5 : pb_A w H_ (o + 5) 0 40 (pb_zf (S.2.2 0)) := hA5
    have hA6 : pb_A w H_ (o + 6) 0 40 (pb_zf (S.2.2 1)) := hA6
    have hA7 : pb_A w H_ (o + 7) 0 576 (pb_zf (S.2.2 2)) := hA7
    have hA8 : pb_A w H_ (o + 8) 0 1300 (pb_zf (cx)) := hA8
    have hA9 : pb_A w H_ (o + 9) 0 1300 (pb_zf (cy)) := hA9
    have hA10 : pb_A w H_ (o + 10) 0 400 (pb_zf (bg)) := hA10
    have hA11 : pb_A w H_ (o + 11) 0 400 (pb_zf (ar)) := hA11
    have hA12 : pb_A w H_ (o + 12) 0 625 (pb_nf (W)) := hA12
    refine pb_aload_n C dX3_looksAtOutline_15 rfl (lv_at hl 0 rfl) ?_
    refine pb_iload_n C dX3_looksAtOutline_16 rfl (lv_at hl 2 rfl) ?_
    refine pb_ic C dX3_looksAtOutline_17 ?_
    refine pb_aload_n C dX3_looksAtOutline_18 rfl (lv_at hl 0 rfl) ?_
    refine pb_get C in_X3 hO.r (ci := 2) rfl 14 (by decide) q1751 (fun _ h9 => h9) (v := .int (iZ (((on : Nat) : Int)))) rfl dX3_looksAtOutline_19 ?_
    refine pb_ic C dX3_looksAtOutline_22 ?_
    refine pb_isub C dX3_looksAtOutline_23 ?_
    have hln := TI_len hTI
    refine pb_go_x (bc' := 0) (bs' := 0) (pb_runS (rest := [.ref (o)]) C hG (met_X3_isIn l q 0 (((on : Nat) : Int) - 1) (by omega) (by omega) (by omega)) (lw_S q1797 q1798 q60 q1799) hdX3_isIn rfl hl.1 rfl (Nat.le_of_ble_eq_true rfl) ⟨(Nat.le_of_ble_eq_true rfl), (Nat.le_of_ble_eq_true rfl)⟩ dX3_looksAtOutline_24) (by omega) (by omega) ?_
    refine pb_ifB_eq C dX3_looksAtOutline_27 (tgt := 34) (by decide) (fun c27_ => ?_) (fun c27_ => ?_)
    · have c27_ := of_decide_eq_false c27_
      refine pb_ic C dX3_looksAtOutline_34 ?_
      refine pb_put C in_X3 tyX3 tyX3_ok nmX3 hO (ci := 2) rfl 0 (by decide) q1737 (fun _ h9 => h9) rfl (v := .int (iZ (2))) rfl rfl (Nat.le_of_ble_eq_true rfl) (by omega) dX3_looksAtOutline_35 fun H1_ hu_ hO => ?_
      have hO : pb_O w H1_ (o) 2 [.int (iZ (2)), .int (iZ ((S.1 1))), .ref (o + 1), .ref (o + 2), .ref (o + 3), .ref (o + 4), .ref (o + 5), .ref (o + 6), .ref (o + 7), .ref (o + 8), .ref (o + 9), .ref (o + 10), .ref (o + 11), .ref (o + 12), .int (iZ (((on : Nat) : Int))), .int (iZ (((cn : Nat) : Int)))] := hO
      have hG := hG.kept (hu_.z (by omega))
      have hA1 := hA1.kept (hu_.2 _ (by omega))
      have hA2 := hA2.kept (hu_.2 _ (by omega))
      have hA3 := hA3.kept (hu_.2 _ (by omega))
      have hA4 := hA4.kept (hu_.2 _ (by omega))
      have hA5 := hA5.kept (hu_.2 _ (by omega))
      have hA6 := hA6.kept (hu_.2 _ (by omega))
      have hA7 := hA7.kept (hu_.2 _ (by omega))
      have hA8 := hA8.kept (hu_.2 _ (by omega))
      have hA9 := hA9.kept (hu_.2 _ (by omega))
      have hA10 := hA10.kept (hu_.2 _ (by omega))
      have hA11 := hA11.kept (hu_.2 _ (by omega))
      have hA12 := hA12.kept (hu_.2 _ (by omega))
      have hF := hF.up hu_ (by omega)
      refine pb_aload_n C dX3_looksAtOutline_38 rfl (lv_at hl 0 rfl) ?_
      refine pb_get C in_X3 hO.r (ci := 2) rfl 0 (by decide) q1737 (fun _ h9 => h9) (v := .int (iZ (2))) rfl dX3_looksAtOutline_39 ?_
      refine pb_if_ne C dX3_looksAtOutline_42 (x := 2) (tgt := 49) (by decide) (by omega) (fun c42_ => ?_) (fun c42_ => ?_)
      · refine pb_ic C dX3_looksAtOutline_49 ?_
        exact pb_zret C dX3_looksAtOutline_50 (by decide +kernel) (⟨_, rfl, rfl, W, cx, cy, bg, ar, on, cn, hTI, ⟨hz, hO, hA1, hA2, hA3, hA4, hA5, hA6, hA7, hA8, hA9, hA10, hA11, hA12⟩, hF⟩)
      · exact absurd c42_ (by decide)
    · have c27_ := of_decide_eq_true c27_
      omega
  · exact absurd c5_ (by decide)

set_option maxHeartbeats 1000000 in
theorem met_X3_looksAtOutline_1 {w : pb_W} (l : Launch) {H0 : Heap} (o : Nat) (S : mS) (hM : MW w H0 o S) (s : Int) (hsr : -2147483648 ≤ s ∧ s ≤ 2147483647) (hs : ¬ (0 ≤ s ∧ s ≤ 7)) (q : Int) (hqr : -2147483648 ≤ q ∧ q ≤ 2147483647) : pb_M w l yX3_looksAtOutline cX3_looksAtOutline 3 (some .boolean) 7 (0) (0) [.ref (o), .int (iZ (s)), .int (iZ (q))] H0 (pb_qi (fun z H1 => z = 0 ∧ MW w H1 o (mI S 0 1) ∧ mF o H0 H1)) := by
  refine pb_of (by decide +kernel) (Nat.le_of_ble_eq_true rfl) ?_
  intro p_ e_ s_ m_ ar_ bl_ me_ co_ ls C hh hG hl
  have hl : lv_has ls 3 [(0, .ref (o)), (1, .int (iZ (s))), (2, .int (iZ (q)))] := hl
  have hM0 := hM; obtain ⟨hz, hO, hA1, hA2, hA3, hA4, hA5, hA6, hA7, hA8, hA9, hA10, hA11, hA12⟩ := hM0
  have hF : mF o H0 H0 := mF.rf
  refine pb_aload_n C dX3_looksAtOutline_0 rfl (lv_at hl 0 rfl) ?_
  refine pb_iload_n C dX3_looksAtOutline_1 rfl (lv_at hl 1 rfl) ?_
  refine pb_go_i (bc' := 0) (bs' := 0) (pb_runV (rest := []) C hG (met_X3_looks_1 l o S hM s hsr hs) hO.r (ci := 2) rfl (lw_V q1937 q1939 qs40 q60 q1940) ⟨rfl, hdX3_looks⟩ rfl hl.1 rfl (Nat.le_of_ble_eq_true rfl) ⟨(Nat.le_of_ble_eq_true rfl), (Nat.le_of_ble_eq_true rfl)⟩ dX3_looksAtOutline_2) (by omega) (by omega) (fun z_ H_ hp_ => ?_)
  obtain ⟨rfl, hM, hF⟩ := hp_
  refine pb_if_ne C dX3_looksAtOutline_5 (x := 0) (tgt := 10) (by decide) (by omega) (fun c5_ => ?_) (fun c5_ => ?_)
  · exact absurd c5_ (by decide)
  · refine pb_ic C dX3_looksAtOutline_8 ?_
    exact pb_zret C dX3_looksAtOutline_9 (by decide +kernel) (⟨_, rfl, rfl, hM, hF⟩)

set_option maxHeartbeats 1000000 in
theorem met_X3_cornerCount {w : pb_W} (l : Launch) {H0 : Heap} (o : Nat) (S : mS) (hM : MW w H0 o S) (s : Nat) (hs : s < 8) (hb : mok S) (q : Nat) (d : Nat × Nat × Nat) (hq : (outs (mg S s) 2500)[q]? = some d) : pb_M w l yX3_cornerCount cX3_cornerCount 3 (some .int) 8 (0) (0) [.ref (o), .int (iZ (((s : Nat) : Int))), .int (iZ (((q : Nat) : Int)))] H0 (pb_qi (fun z H1 => z = (((crn (mg S s) d).length : Nat) : Int) ∧ ∃ W cx cy bg ar on cn, TI (mg S s) 2500 W cx cy bg ar on cn ∧ MW w H1 o (mT (mI S 0 0) W cx cy bg ar ((on : Nat) : Int) ((cn : Nat) : Int)) ∧ mF o H0 H1)) := by
  refine pb_of (by decide +kernel) (Nat.le_of_ble_eq_true rfl) ?_
  intro p_ e_ s_ m_ ar_ bl_ me_ co_ ls C hh hG hl
  have hl : lv_has ls 3 [(0, .ref (o)), (1, .int (iZ (((s : Nat) : Int)))), (2, .int (iZ (((q : Nat) : Int))))] := hl
  have hM0 := hM; obtain ⟨hz, hO, hA1, hA2, hA3, hA4, hA5, hA6, hA7, hA8, hA9, hA10, hA11, hA12⟩ := hM0
  have hF : mF o H0 H0 := mF.rf
  refine pb_aload_n C dX3_cornerCount_0 rfl (lv_at hl 0 rfl) ?_
  refine pb_iload_n C dX3_cornerCount_1 rfl (lv_at hl 1 rfl) ?_
  refine pb_iload_n C dX3_cornerCount_2 rfl (lv_at hl 2 rfl) ?_
  refine pb_go_i (bc' := 0) (bs' := 0) (pb_runV (rest := []) C hG (met_X3_looksAtOutline l o S hM s hs hb q (List.getElem?_eq_some_iff.mp hq).1) hO.r (ci := 2) rfl (lw_V q2071 q2073 qs48 q60 q2074) ⟨rfl, hdX3_looksAtOutline⟩ rfl hl.1 rfl (Nat.le_of_ble_eq_true rfl) ⟨(Nat.le_of_ble_eq_true rfl), (Nat.le_of_ble_eq_true rfl)⟩ dX3_cornerCount_3) (by omega) (by omega) (fun z_ H_ hp_ => ?_)
  obtain ⟨rfl, W, cx, cy, bg, ar, on, cn, hTI, hM, hF⟩ := hp_
  have hG := hG.kept (hF.z hz)
  have hTb := TI_b hTI
  obtain ⟨hqn, f, hf1, hf2, har, hf3, hcc⟩ := TI_at hTI hq
  have hM0 := hM; obtain ⟨hz, hO, hA1, hA2, hA3, hA4, hA5, hA6, hA7, hA8, hA9, hA10, hA11, hA12⟩ := hM0
  have hO : pb_O w H_ o 2 [.int (iZ ((0))), .int (iZ ((S.1 1))), .ref (o + 1), .ref (o + 2), .ref (o + 3), .ref (o + 4), .ref (o + 5), .ref (o + 6), .ref (o + 7), .ref (o + 8), .ref (o + 9), .ref (o + 10), .ref (o + 11), .ref (o + 12), .int (iZ (((on : Nat) : Int))), .int (iZ (((cn : Nat) : Int)))] := hO
  have hA1 : pb_A w H_ (o + 1) 0 192 (pb_nf (S.2.1 0)) := hA1
  have hA2 : pb_A w H_ (o + 2) 0 24 (pb_nf (S.2.1 1)) := hA2
  have hA3 : pb_A w H_ (o + 3) 0 26 (pb_nf (S.2.1 2)) := hA3
  have hA4 : pb_A w H_ (o + 4) 0 26 (pb_nf (S.2.1 3)) := hA4
  have hA5 : pb_A w H_ (o + 5) 0 40 (pb_zf (S.2.2 0)) := hA5
  have hA6 : pb_A w H_ (o + 6) 0 40 (pb_zf (S.2.2 1)) := hA6
  have hA7 : pb_A w H_ (o + 7) 0 576 (pb_zf (S.2.2 2)) := hA7
  have hA8 : pb_A w H_ (o + 8) 0 1300 (pb_zf (cx)) := hA8
  have hA9 : pb_A w H_ (o + 9) 0 1300 (pb_zf (cy)) := hA9
  have hA10 : pb_A w H_ (o + 10) 0 400 (pb_zf (bg)) := hA10
  have hA11 : pb_A w H_ (o + 11) 0 400 (pb_zf (ar)) := hA11
  have hA12 : pb_A w H_ (o + 12) 0 625 (pb_nf (W)) := hA12
  refine pb_if_eq C dX3_cornerCount_6 (x := 1) (tgt := 27) (by decide) (by omega) (fun c6_ => ?_) (fun c6_ => ?_)
  · exact absurd c6_ (by decide)
  · refine pb_aload_n C dX3_cornerCount_9 rfl (lv_at hl 0 rfl) ?_
    refine pb_get C in_X3 hO.r (ci := 2) rfl 11 (by decide) q1748 (fun _ h9 => h9) (v := .ref (o + 10)) rfl dX3_cornerCount_10 ?_
    refine pb_iload_n C dX3_cornerCount_13 rfl (lv_at hl 2 rfl) ?_
    refine pb_ic C dX3_cornerCount_14 ?_
    refine pb_iadd C dX3_cornerCount_15 ?_
    refine pb_iald C hA10.b (i := (((q + 1) : Nat) : Int)) (v := .int (iZ ((((f + (crn (mg S s) d).length) : Nat) : Int)))) (by omega) (congrArg (fun z : Int => Value.int (iZ z)) hf2) dX3_cornerCount_16 ?_
    refine pb_aload_n C dX3_cornerCount_17 rfl (lv_at hl 0 rfl) ?_
    refine pb_get C in_X3 hO.r (ci := 2) rfl 11 (by decide) q1748 (fun _ h9 => h9) (v := .ref (o + 10)) rfl dX3_cornerCount_18 ?_
    refine pb_iload_n C dX3_cornerCount_21 rfl (lv_at hl 2 rfl) ?_
    refine pb_iald C hA10.b (i := ((q : Nat) : Int)) (v := .int (iZ (((f : Nat) : Int)))) (by omega) (congrArg (fun z : Int => Value.int (iZ z)) hf1) dX3_cornerCount_22 ?_
    refine pb_isub C dX3_cornerCount_23 ?_
    refine pb_goto C dX3_cornerCount_24 (tgt := 28) (by decide) ?_
    exact pb_iret C dX3_cornerCount_28 (⟨_, rfl, by omega, W, cx, cy, bg, ar, on, cn, hTI, hM, hF⟩)

set_option maxHeartbeats 1000000 in
theorem met_X3_signedArea {w : pb_W} (l : Launch) {H0 : Heap} (o : Nat) (S : mS) (hM : MW w H0 o S) (s : Nat) (hs : s < 8) (hb : mok S) (q : Nat) (d : Nat × Nat × Nat) (hq : (outs (mg S s) 2500)[q]? = some d) : pb_M w l yX3_signedArea cX3_signedArea 3 (some .int) 8 (0) (0) [.ref (o), .int (iZ (((s : Nat) : Int))), .int (iZ (((q : Nat) : Int)))] H0 (pb_qi (fun z H1 => z = (arA (mg S s) d) ∧ ∃ W cx cy bg ar on cn, TI (mg S s) 2500 W cx cy bg ar on cn ∧ MW w H1 o (mT (mI S 0 0) W cx cy bg ar ((on : Nat) : Int) ((cn : Nat) : Int)) ∧ mF o H0 H1)) := by
  refine pb_of (by decide +kernel) (Nat.le_of_ble_eq_true rfl) ?_
  intro p_ e_ s_ m_ ar_ bl_ me_ co_ ls C hh hG hl
  have hl : lv_has ls 3 [(0, .ref (o)), (1, .int (iZ (((s : Nat) : Int)))), (2, .int (iZ (((q : Nat) : Int))))] := hl
  have hM0 := hM; obtain ⟨hz, hO, hA1, hA2, hA3, hA4, hA5, hA6, hA7, hA8, hA9, hA10, hA11, hA12⟩ := hM0
  have hF : mF o H0 H0 := mF.rf
  refine pb_aload_n C dX3_signedArea_0 rfl (lv_at hl 0 rfl) ?_
  refine pb_iload_n C dX3_signedArea_1 rfl (lv_at hl 1 rfl) ?_
  refine pb_iload_n C dX3_signedArea_2 rfl (lv_at hl 2 rfl) ?_
  refine pb_go_i (bc' := 0) (bs' := 0) (pb_runV (rest := []) C hG (met_X3_looksAtOutline l o S hM s hs hb q (List.getElem?_eq_some_iff.mp hq).1) hO.r (ci := 2) rfl (lw_V q2071 q2073 qs48 q60 q2074) ⟨rfl, hdX3_looksAtOutline⟩ rfl hl.1 rfl (Nat.le_of_ble_eq_true rfl) ⟨(Nat.le_of_ble_eq_true rfl), (Nat.le_of_ble_eq_true rfl)⟩ dX3_signedArea_3) (by omega) (by omega) (fun z_ H_ hp_ => ?_)
  obtain ⟨rfl, W, cx, cy, bg, ar, on, cn, hTI, hM, hF⟩ := hp_
  have hG := hG.kept (hF.z hz)
  have hTb := TI_b hTI
  obtain ⟨hqn, f, hf1, hf2, har, hf3, hcc⟩ := TI_at hTI hq
  have hM0 := hM; obtain ⟨hz, hO, hA1, hA2, hA3, hA4, hA5, hA6, hA7, hA8, hA9, hA10, hA11, hA12⟩ := hM0
  have hO : pb_O w H_ o 2 [.int (iZ ((0))), .int (iZ ((S.1 1))), .ref (o + 1), .ref (o + 2), .ref (o + 3), .ref (o + 4), .ref (o + 5), .ref (o + 6), .ref (o + 7), .ref (o + 8), .ref (o + 9), .ref (o + 10), .ref (o + 11), .ref (o + 12), .int (iZ (((on : Nat) : Int))), .int (iZ (((cn : Nat) : Int)))] := hO
  have hA1 : pb_A w H_ (o + 1) 0 192 (pb_nf (S.2.1 0)) := hA1
  have hA2 : pb_A w H_ (o + 2) 0 24 (pb_nf (S.2.1 1)) := hA2
  have hA3 : pb_A w H_ (o + 3) 0 26 (pb_nf (S.2.1 2)) := hA3
  have hA4 : pb_A w H_ (o + 4) 0 26 (pb_nf (S.2.1 3)) := hA4
  have hA5 : pb_A w H_ (o + 5) 0 40 (pb_zf (S.2.2 0)) := hA5
  have hA6 : pb_A w H_ (o + 6) 0 40 (pb_zf (S.2.2 1)) := hA6
  have hA7 : pb_A w H_ (o + 7) 0 576 (pb_zf (S.2.2 2)) := hA7
  have hA8 : pb_A w H_ (o + 8) 0 1300 (pb_zf (cx)) := hA8
  have hA9 : pb_A w H_ (o + 9) 0 1300 (pb_zf (cy)) := hA9
  have hA10 : pb_A w H_ (o + 10) 0 400 (pb_zf (bg)) := hA10
  have hA11 : pb_A w H_ (o + 11) 0 400 (pb_zf (ar)) := hA11
  have hA12 : pb_A w H_ (o + 12) 0 625 (pb_nf (W)) := hA12
  refine pb_if_eq C dX3_signedArea_6 (x := 1) (tgt := 18) (by decide) (by omega) (fun c6_ => ?_) (fun c6_ => ?_)
  · exact absurd c6_ (by decide)
  · refine pb_aload_n C dX3_signedArea_9 rfl (lv_at hl 0 rfl) ?_
    refine pb_get C in_X3 hO.r (ci := 2) rfl 12 (by decide) q1749 (fun _ h9 => h9) (v := .ref (o + 11)) rfl dX3_signedArea_10 ?_
    refine pb_iload_n C dX3_signedArea_13 rfl (lv_at hl 2 rfl) ?_
    refine pb_iald C hA11.b (i := ((q : Nat) : Int)) (v := .int (iZ ((arA (mg S s) d)))) (by omega) (congrArg (fun z : Int => Value.int (iZ z)) har) dX3_signedArea_14 ?_
    refine pb_goto C dX3_signedArea_15 (tgt := 19) (by decide) ?_
    exact pb_iret C dX3_signedArea_19 (⟨_, rfl, rfl, W, cx, cy, bg, ar, on, cn, hTI, hM, hF⟩)

set_option maxHeartbeats 1000000 in
theorem met_X3_cornerCount_2 {w : pb_W} (l : Launch) {H0 : Heap} (o : Nat) (S : mS) (hM : MW w H0 o S) (s : Nat) (hs : s < 8) (hb : mok S) (q : Int) (hqr : -2147483648 ≤ q ∧ q ≤ 2147483647) (hq : ¬ (0 ≤ q ∧ q < (((outs (mg S s) 2500).length : Nat) : Int))) : pb_M w l yX3_cornerCount cX3_cornerCount 3 (some .int) 8 (0) (0) [.ref (o), .int (iZ (((s : Nat) : Int))), .int (iZ (q))] H0 (pb_qi (fun z H1 => z = 0 ∧ ∃ W cx cy bg ar on cn, TI (mg S s) 2500 W cx cy bg ar on cn ∧ MW w H1 o (mT (mI S 0 2) W cx cy bg ar ((on : Nat) : Int) ((cn : Nat) : Int)) ∧ mF o H0 H1)) := by
  refine pb_of (by decide +kernel) (Nat.le_of_ble_eq_true rfl) ?_
  intro p_ e_ s_ m_ ar_ bl_ me_ co_ ls C hh hG hl
  have hl : lv_has ls 3 [(0, .ref (o)), (1, .int (iZ (((s : Nat) : Int)))), (2, .int (iZ (q)))] := hl
  have hM0 := hM; obtain ⟨hz, hO, hA1, hA2, hA3, hA4, hA5, hA6, hA7, hA8, hA9, hA10, hA11, hA12⟩ := hM0
  have hF : mF o H0 H0 := mF.rf
  refine pb_aload_n C dX3_cornerCount_0 rfl (lv_at hl 0 rfl) ?_
  refine pb_iload_n C dX3_cornerCount_1 rfl (lv_at hl 1 rfl) ?_
  refine pb_iload_n C dX3_cornerCount_2 rfl (lv_at hl 2 rfl) ?_
  refine pb_go_i (bc' := 0) (bs' := 0) (pb_runV (rest := []) C hG (met_X3_looksAtOutline_2 l o S hM s hs hb q hqr hq) hO.r (ci := 2) rfl (lw_V q2071 q2073 qs48 q60 q2074) ⟨rfl, hdX3_looksAtOutline⟩ rfl hl.1 rfl (Nat.le_of_ble_eq_true rfl) ⟨(Nat.le_of_ble_eq_true rfl), (Nat.le_of_ble_eq_true rfl)⟩ dX3_cornerCount_3) (by omega) (by omega) (fun z_ H_ hp_ => ?_)
  obtain ⟨rfl, W, cx, cy, bg, ar, on, cn, hTI, hM, hF⟩ := hp_
  refine pb_if_eq C dX3_cornerCount_6 (x := 0) (tgt := 27) (by decide) (by omega) (fun c6_ => ?_) (fun c6_ => ?_)
  · refine pb_ic C dX3_cornerCount_27 ?_
    exact pb_iret C dX3_cornerCount_28 (⟨_, rfl, rfl, W, cx, cy, bg, ar, on, cn, hTI, hM, hF⟩)
  · exact absurd c6_ (by decide)

set_option maxHeartbeats 1000000 in
theorem met_X3_cornerCount_1 {w : pb_W} (l : Launch) {H0 : Heap} (o : Nat) (S : mS) (hM : MW w H0 o S) (s : Int) (hsr : -2147483648 ≤ s ∧ s ≤ 2147483647) (hs : ¬ (0 ≤ s ∧ s ≤ 7)) (q : Int) (hqr : -2147483648 ≤ q ∧ q ≤ 2147483647) : pb_M w l yX3_cornerCount cX3_cornerCount 3 (some .int) 8 (0) (0) [.ref (o), .int (iZ (s)), .int (iZ (q))] H0 (pb_qi (fun z H1 => z = 0 ∧ MW w H1 o (mI S 0 1) ∧ mF o H0 H1)) := by
  refine pb_of (by decide +kernel) (Nat.le_of_ble_eq_true rfl) ?_
  intro p_ e_ s_ m_ ar_ bl_ me_ co_ ls C hh hG hl
  have hl : lv_has ls 3 [(0, .ref (o)), (1, .int (iZ (s))), (2, .int (iZ (q)))] := hl
  have hM0 := hM; obtain ⟨hz, hO, hA1, hA2, hA3, hA4, hA5, hA6, hA7, hA8, hA9, hA10, hA11, hA12⟩ := hM0
  have hF : mF o H0 H0 := mF.rf
  refine pb_aload_n C dX3_cornerCount_0 rfl (lv_at hl 0 rfl) ?_
  refine pb_iload_n C dX3_cornerCount_1 rfl (lv_at hl 1 rfl) ?_
  refine pb_iload_n C dX3_cornerCount_2 rfl (lv_at hl 2 rfl) ?_
  refine pb_go_i (bc' := 0) (bs' := 0) (pb_runV (rest := []) C hG (met_X3_looksAtOutline_1 l o S hM s hsr hs q hqr) hO.r (ci := 2) rfl (lw_V q2071 q2073 qs48 q60 q2074) ⟨rfl, hdX3_looksAtOutline⟩ rfl hl.1 rfl (Nat.le_of_ble_eq_true rfl) ⟨(Nat.le_of_ble_eq_true rfl), (Nat.le_of_ble_eq_true rfl)⟩ dX3_cornerCount_3) (by omega) (by omega) (fun z_ H_ hp_ => ?_)
  obtain ⟨rfl, hM, hF⟩ := hp_
  refine pb_if_eq C dX3_cornerCount_6 (x := 0) (tgt := 27) (by decide) (by omega) (fun c6_ => ?_) (fun c6_ => ?_)
  · refine pb_ic C dX3_cornerCount_27 ?_
    exact pb_iret C dX3_cornerCount_28 (⟨_, rfl, rfl, hM, hF⟩)
  · exact absurd c6_ (by decide)

set_option maxHeartbeats 1000000 in
theorem met_X3_signedArea_2 {w : pb_W} (l : Launch) {H0 : Heap} (o : Nat) (S : mS) (hM : MW w H0 o S) (s : Nat) (hs : s < 8) (hb : mok S) (q : Int) (hqr : -2147483648 ≤ q ∧ q ≤ 2147483647) (hq : ¬ (0 ≤ q ∧ q < (((outs (mg S s) 2500).length : Nat) : Int))) : pb_M w l yX3_signedArea cX3_signedArea 3 (some .int) 8 (0) (0) [.ref (o), .int (iZ (((s : Nat) : Int))), .int (iZ (q))] H0 (pb_qi (fun z H1 => z = 0 ∧ ∃ W cx cy bg ar on cn, TI (mg S s) 2500 W cx cy bg ar on cn ∧ MW w H1 o (mT (mI S 0 2) W cx cy bg ar ((on : Nat) : Int) ((cn : Nat) : Int)) ∧ mF o H0 H1)) := by
  refine pb_of (by decide +kernel) (Nat.le_of_ble_eq_true rfl) ?_
  intro p_ e_ s_ m_ ar_ bl_ me_ co_ ls C hh hG hl
  have hl : lv_has ls 3 [(0, .ref (o)), (1, .int (iZ (((s : Nat) : Int)))), (2, .int (iZ (q)))] := hl
  have hM0 := hM; obtain ⟨hz, hO, hA1, hA2, hA3, hA4, hA5, hA6, hA7, hA8, hA9, hA10, hA11, hA12⟩ := hM0
  have hF : mF o H0 H0 := mF.rf
  refine pb_aload_n C dX3_signedArea_0 rfl (lv_at hl 0 rfl) ?_
  refine pb_iload_n C dX3_signedArea_1 rfl (lv_at hl 1 rfl) ?_
  refine pb_iload_n C dX3_signedArea_2 rfl (lv_at hl 2 rfl) ?_
  refine pb_go_i (bc' := 0) (bs' := 0) (pb_runV (rest := []) C hG (met_X3_looksAtOutline_2 l o S hM s hs hb q hqr hq) hO.r (ci := 2) rfl (lw_V q2071 q2073 qs48 q60 q2074) ⟨rfl, hdX3_looksAtOutline⟩ rfl hl.1 rfl (Nat.le_of_ble_eq_true rfl) ⟨(Nat.le_of_ble_eq_true rfl), (Nat.le_of_ble_eq_true rfl)⟩ dX3_signedArea_3) (by omega) (by omega) (fun z_ H_ hp_ => ?_)
  obtain ⟨rfl, W, cx, cy, bg, ar, on, cn, hTI, hM, hF⟩ := hp_
  refine pb_if_eq C dX3_signedArea_6 (x := 0) (tgt := 18) (by decide) (by omega) (fun c6_ => ?_) (fun c6_ => ?_)
  · refine pb_ic C dX3_signedArea_18 ?_
    exact pb_iret C dX3_signedArea_19 (⟨_, rfl, rfl, W, cx, cy, bg, ar, on, cn, hTI, hM, hF⟩)
  · exact absurd c6_ (by decide)

set_option maxHeartbeats 1000000 in
theorem met_X3_signedArea_1 {w : pb_W} (l : Launch) {H0 : Heap} (o : Nat) (S : mS) (hM : MW w H0 o S) (s : Int) (hsr : -2147483648 ≤ s ∧ s ≤ 2147483647) (hs : ¬ (0 ≤ s ∧ s ≤ 7)) (q : Int) (hqr : -2147483648 ≤ q ∧ q ≤ 2147483647) : pb_M w l yX3_signedArea cX3_signedArea 3 (some .int) 8 (0) (0) [.ref (o), .int (iZ (s)), .int (iZ (q))] H0 (pb_qi (fun z H1 => z = 0 ∧ MW w H1 o (mI S 0 1) ∧ mF o H0 H1)) := by
  refine pb_of (by decide +kernel) (Nat.le_of_ble_eq_true rfl) ?_
  intro p_ e_ s_ m_ ar_ bl_ me_ co_ ls C hh hG hl
  have hl : lv_has ls 3 [(0, .ref (o)), (1, .int (iZ (s))), (2, .int (iZ (q)))] := hl
  have hM0 := hM; obtain ⟨hz, hO, hA1, hA2, hA3, hA4, hA5, hA6, hA7, hA8, hA9, hA10, hA11, hA12⟩ := hM0
  have hF : mF o H0 H0 := mF.rf
  refine pb_aload_n C dX3_signedArea_0 rfl (lv_at hl 0 rfl) ?_
  refine pb_iload_n C dX3_signedArea_1 rfl (lv_at hl 1 rfl) ?_
  refine pb_iload_n C dX3_signedArea_2 rfl (lv_at hl 2 rfl) ?_
  refine pb_go_i (bc' := 0) (bs' := 0) (pb_runV (rest := []) C hG (met_X3_looksAtOutline_1 l o S hM s hsr hs q hqr) hO.r (ci := 2) rfl (lw_V q2071 q2073 qs48 q60 q2074) ⟨rfl, hdX3_looksAtOutline⟩ rfl hl.1 rfl (Nat.le_of_ble_eq_true rfl) ⟨(Nat.le_of_ble_eq_true rfl), (Nat.le_of_ble_eq_true rfl)⟩ dX3_signedArea_3) (by omega) (by omega) (fun z_ H_ hp_ => ?_)
  obtain ⟨rfl, hM, hF⟩ := hp_
  refine pb_if_eq C dX3_signedArea_6 (x := 0) (tgt := 18) (by decide) (by omega) (fun c6_ => ?_) (fun c6_ => ?_)
  · refine pb_ic C dX3_signedArea_18 ?_
    exact pb_iret C dX3_signedArea_19 (⟨_, rfl, rfl, hM, hF⟩)
  · exact absurd c6_ (by decide)

set_option maxHeartbeats 1000000 in
theorem met_X3_looksAtCorner {w : pb_W} (l : Launch) {H0 : Heap} (o : Nat) (S : mS) (hM : MW w H0 o S) (s : Nat) (hs : s < 8) (hb : mok S) (q : Nat) (d : Nat × Nat × Nat) (hq : (outs (mg S s) 2500)[q]? = some d) (c : Nat) (hc : c < (crn (mg S s) d).length) : pb_M w l yX3_looksAtCorner cX3_looksAtCorner 4 (some .boolean) 8 (0) (0) [.ref (o), .int (iZ (((s : Nat) : Int))), .int (iZ (((q : Nat) : Int))), .int (iZ (((c : Nat) : Int)))] H0 (pb_qi (fun z H1 => z = 1 ∧ ∃ W cx cy bg ar on cn, TI (mg S s) 2500 W cx cy bg ar on cn ∧ MW w H1 o (mT (mI S 0 0) W cx cy bg ar ((on : Nat) : Int) ((cn : Nat) : Int)) ∧ mF o H0 H1)) := by
  refine pb_of (by decide +kernel) (Nat.le_of_ble_eq_true rfl) ?_
  intro p_ e_ s_ m_ ar_ bl_ me_ co_ ls C hh hG hl
  have hl : lv_has ls 4 [(0, .ref (o)), (1, .int (iZ (((s : Nat) : Int)))), (2, .int (iZ (((q : Nat) : Int)))), (3, .int (iZ (((c : Nat) : Int))))] := hl
  have hM0 := hM; obtain ⟨hz, hO, hA1, hA2, hA3, hA4, hA5, hA6, hA7, hA8, hA9, hA10, hA11, hA12⟩ := hM0
  have hF : mF o H0 H0 := mF.rf
  refine pb_aload_n C dX3_looksAtCorner_0 rfl (lv_at hl 0 rfl) ?_
  refine pb_iload_n C dX3_looksAtCorner_1 rfl (lv_at hl 1 rfl) ?_
  refine pb_iload_n C dX3_looksAtCorner_2 rfl (lv_at hl 2 rfl) ?_
  refine pb_go_i (bc' := 0) (bs' := 0) (pb_runV (rest := []) C hG (met_X3_looksAtOutline l o S hM s hs hb q (List.getElem?_eq_some_iff.mp hq).1) hO.r (ci := 2) rfl (lw_V q2071 q2073 qs48 q60 q2074) ⟨rfl, hdX3_looksAtOutline⟩ rfl hl.1 rfl (Nat.le_of_ble_eq_true rfl) ⟨(Nat.le_of_ble_eq_true rfl), (Nat.le_of_ble_eq_true rfl)⟩ dX3_looksAtCorner_3) (by omega) (by omega) (fun z_ H_ hp_ => ?_)
  obtain ⟨rfl, W, cx, cy, bg, ar, on, cn, hTI, hM, hF⟩ := hp_
  have hG := hG.kept (hF.z hz)
  have hTb := TI_b hTI
  obtain ⟨hqn, f, hf1, hf2, har, hf3, hcc⟩ := TI_at hTI hq
  have hM0 := hM; obtain ⟨hz, hO, hA1, hA2, hA3, hA4, hA5, hA6, hA7, hA8, hA9, hA10, hA11, hA12⟩ := hM0
  have hO : pb_O w H_ o 2 [.int (iZ ((0))), .int (iZ ((S.1 1))), .ref (o + 1), .ref (o + 2), .ref (o + 3), .ref (o + 4), .ref (o + 5), .ref (o + 6), .ref (o + 7), .ref (o + 8), .ref (o + 9), .ref (o + 10), .ref (o + 11), .ref (o + 12), .int (iZ (((on : Nat) : Int))), .int (iZ (((cn : Nat) : Int)))] := hO
  have hA1 : pb_A w H_ (o + 1) 0 192 (pb_nf (S.2.1 0)) := hA1
  have hA2 : pb_A w H_ (o + 2) 0 24 (pb_nf (S.2.1 1)) := hA2
  have hA3 : pb_A w H_ (o + 3) 0 26 (pb_nf (S.2.1 2)) := hA3
  have hA4 : pb_A w H_ (o + 4) 0 26 (pb_nf (S.2.1 3)) := hA4
  have hA5 : pb_A w H_ (o + 5) 0 40 (pb_zf (S.2.2 0)) := hA5
  have hA6 : pb_A w H_ (o + 6) 0 40 (pb_zf (S.2.2 1)) := hA6
  have hA7 : pb_A w H_ (o + 7) 0 576 (pb_zf (S.2.2 2)) := hA7
  have hA8 : pb_A w H_ (o + 8) 0 1300 (pb_zf (cx)) := hA8
  have hA9 : pb_A w H_ (o + 9) 0 1300 (pb_zf (cy)) := hA9
  have hA10 : pb_A w H_ (o + 10) 0 400 (pb_zf (bg)) := hA10
  have hA11 : pb_A w H_ (o + 11) 0 400 (pb_zf (ar)) := hA11
  have hA12 : pb_A w H_ (o + 12) 0 625 (pb_nf (W)) := hA12
  refine pb_if_ne C dX3_looksAtCorner_6 (x := 1) (tgt := 11) (by decide) (by omega) (fun c6_ => ?_) (fun c6_ => ?_)
  · refine pb_aload_n C dX3_looksAtCorner_11 rfl (lv_at hl 0 rfl) ?_
    refine pb_iload_n C dX3_looksAtCorner_12 rfl (lv_at hl 3 rfl) ?_
    refine pb_ic C dX3_looksAtCorner_13 ?_
    refine pb_aload_n C dX3_looksAtCorner_14 rfl (lv_at hl 0 rfl) ?_
    refine pb_get C in_X3 hO.r (ci := 2) rfl 11 (by decide) q1748 (fun _ h9 => h9) (v := .ref (o + 10)) rfl dX3_looksAtCorner_15 ?_
    refine pb_iload_n C dX3_looksAtCorner_18 rfl (lv_at hl 2 rfl) ?_
    refine pb_ic C dX3_looksAtCorner_19 ?_
    refine pb_iadd C dX3_looksAtCorner_20 ?_
    refine pb_iald C hA10.b (i := (((q + 1) : Nat) : Int)) (v := .int (iZ ((((f + (crn (mg S s) d).length) : Nat) : Int)))) (by omega) (congrArg (fun z : Int => Value.int (iZ z)) hf2) dX3_looksAtCorner_21 ?_
    refine pb_aload_n C dX3_looksAtCorner_22 rfl (lv_at hl 0 rfl) ?_
    refine pb_get C in_X3 hO.r (ci := 2) rfl 11 (by decide) q1748 (fun _ h9 => h9) (v := .ref (o + 10)) rfl dX3_looksAtCorner_23 ?_
    refine pb_iload_n C dX3_looksAtCorner_26 rfl (lv_at hl 2 rfl) ?_
    refine pb_iald C hA10.b (i := ((q : Nat) : Int)) (v := .int (iZ (((f : Nat) : Int)))) (by omega) (congrArg (fun z : Int => Value.int (iZ z)) hf1) dX3_looksAtCorner_27 ?_
    refine pb_isub C dX3_looksAtCorner_28 ?_
    refine pb_eq (g2 := F0 m_ 29 ls [.int (iZ ((((crn (mg S s) d).length : Nat) : Int))), .int (iZ (0)), .int (iZ (((c : Nat) : Int))), .ref (o)]) (congrArg (fun z9 => F0 m_ 29 ls [.int (iZ z9), .int (iZ (0)), .int (iZ (((c : Nat) : Int))), .ref (o)]) (show ((((f + (crn (mg S s) d).length) : Nat) : Int) - ((f : Nat) : Int)) = (((crn (mg S s) d).length : Nat) : Int) from (by omega))) ?_
    refine pb_ic C dX3_looksAtCorner_29 ?_
    refine pb_isub C dX3_looksAtCorner_30 ?_
    refine pb_go_x (bc' := 0) (bs' := 0) (pb_runS (rest := [.ref (o)]) C hG (met_X3_isIn l ((c : Nat) : Int) 0 ((((crn (mg S s) d).length : Nat) : Int) - 1) (by omega) (by omega) (by omega)) (lw_S q1797 q1798 q60 q1799) hdX3_isIn rfl hl.1 rfl (Nat.le_of_ble_eq_true rfl) ⟨(Nat.le_of_ble_eq_true rfl), (Nat.le_of_ble_eq_true rfl)⟩ dX3_looksAtCorner_31) (by omega) (by omega) ?_
    refine pb_ifB_eq C dX3_looksAtCorner_34 (tgt := 41) (by decide) (fun c34_ => ?_) (fun c34_ => ?_)
    · have c34_ := of_decide_eq_false c34_
      omega
    · have c34_ := of_decide_eq_true c34_
      refine pb_ic C dX3_looksAtCorner_37 ?_
      refine pb_goto C dX3_looksAtCorner_38 (tgt := 42) (by decide) ?_
      refine pb_put C in_X3 tyX3 tyX3_ok nmX3 hO (ci := 2) rfl 0 (by decide) q1737 (fun _ h9 => h9) rfl (v := .int (iZ (0))) rfl rfl (Nat.le_of_ble_eq_true rfl) (by omega) dX3_looksAtCorner_42 fun H1_ hu_ hO => ?_
      have hO : pb_O w H1_ (o) 2 [.int (iZ (0)), .int (iZ ((S.1 1))), .ref (o + 1), .ref (o + 2), .ref (o + 3), .ref (o + 4), .ref (o + 5), .ref (o + 6), .ref (o + 7), .ref (o + 8), .ref (o + 9), .ref (o + 10), .ref (o + 11), .ref (o + 12), .int (iZ (((on : Nat) : Int))), .int (iZ (((cn : Nat) : Int)))] := hO
      have hG := hG.kept (hu_.z (by omega))
      have hA1 := hA1.kept (hu_.2 _ (by omega))
      have hA2 := hA2.kept (hu_.2 _ (by omega))
      have hA3 := hA3.kept (hu_.2 _ (by omega))
      have hA4 := hA4.kept (hu_.2 _ (by omega))
      have hA5 := hA5.kept (hu_.2 _ (by omega))
      have hA6 := hA6.kept (hu_.2 _ (by omega))
      have hA7 := hA7.kept (hu_.2 _ (by omega))
      have hA8 := hA8.kept (hu_.2 _ (by omega))
      have hA9 := hA9.kept (hu_.2 _ (by omega))
      have hA10 := hA10.kept (hu_.2 _ (by omega))
      have hA11 := hA11.kept (hu_.2 _ (by omega))
      have hA12 := hA12.kept (hu_.2 _ (by omega))
      have hF := hF.up hu_ (by omega)
      refine pb_aload_n C dX3_looksAtCorner_45 rfl (lv_at hl 0 rfl) ?_
      refine pb_get C in_X3 hO.r (ci := 2) rfl 0 (by decide) q1737 (fun _ h9 => h9) (v := .int (iZ (0))) rfl dX3_looksAtCorner_46 ?_
      refine pb_if_ne C dX3_looksAtCorner_49 (x := 0) (tgt := 56) (by decide) (by omega) (fun c49_ => ?_) (fun c49_ => ?_)
      · exact absurd c49_ (by decide)
      · refine pb_ic C dX3_looksAtCorner_52 ?_
        refine pb_goto C dX3_looksAtCorner_53 (tgt := 57) (by decide) ?_
        exact pb_zret C dX3_looksAtCorner_57 (by decide +kernel) (⟨_, rfl, rfl, W, cx, cy, bg, ar, on, cn, hTI, ⟨hz, hO, hA1, hA2, hA3, hA4, hA5, hA6, hA7, hA8, hA9, hA10, hA11, hA12⟩, hF⟩)
  · exact absurd c6_ (by decide)

set_option maxHeartbeats 1000000 in
theorem met_X3_looksAtCorner_3 {w : pb_W} (l : Launch) {H0 : Heap} (o : Nat) (S : mS) (hM : MW w H0 o S) (s : Nat) (hs : s < 8) (hb : mok S) (q : Nat) (d : Nat × Nat × Nat) (hq : (outs (mg S s) 2500)[q]? = some d) (c : Int) (hcr : -2147483648 ≤ c ∧ c ≤ 2147483647) (hc : ¬ (0 ≤ c ∧ c < (((crn (mg S s) d).length : Nat) : Int))) : pb_M w l yX3_looksAtCorner cX3_looksAtCorner 4 (some .boolean) 8 (0) (0) [.ref (o), .int (iZ (((s : Nat) : Int))), .int (iZ (((q : Nat) : Int))), .int (iZ (c))] H0 (pb_qi (fun z H1 => z = 0 ∧ ∃ W cx cy bg ar on cn, TI (mg S s) 2500 W cx cy bg ar on cn ∧ MW w H1 o (mT (mI S 0 2) W cx cy bg ar ((on : Nat) : Int) ((cn : Nat) : Int)) ∧ mF o H0 H1)) := by
  refine pb_of (by decide +kernel) (Nat.le_of_ble_eq_true rfl) ?_
  intro p_ e_ s_ m_ ar_ bl_ me_ co_ ls C hh hG hl
  have hl : lv_has ls 4 [(0, .ref (o)), (1, .int (iZ (((s : Nat) : Int)))), (2, .int (iZ (((q : Nat) : Int)))), (3, .int (iZ (c)))] := hl
  have hM0 := hM; obtain ⟨hz, hO, hA1, hA2, hA3, hA4, hA5, hA6, hA7, hA8, hA9, hA10, hA11, hA12⟩ := hM0
  have hF : mF o H0 H0 := mF.rf
  refine pb_aload_n C dX3_looksAtCorner_0 rfl (lv_at hl 0 rfl) ?_
  refine pb_iload_n C dX3_looksAtCorner_1 rfl (lv_at hl 1 rfl) ?_
  refine pb_iload_n C dX3_looksAtCorner_2 rfl (lv_at hl 2 rfl) ?_
  refine pb_go_i (bc' := 0) (bs' := 0) (pb_runV (rest := []) C hG (met_X3_looksAtOutline l o S hM s hs hb q (List.getElem?_eq_some_iff.mp hq).1) hO.r (ci := 2) rfl (lw_V q2071 q2073 qs48 q60 q2074) ⟨rfl, hdX3_looksAtOutline⟩ rfl hl.1 rfl (Nat.le_of_ble_eq_true rfl) ⟨(Nat.le_of_ble_eq_true rfl), (Nat.le_of_ble_eq_true rfl)⟩ dX3_looksAtCorner_3) (by omega) (by omega) (fun z_ H_ hp_ => ?_)
  obtain ⟨rfl, W, cx, cy, bg, ar, on, cn, hTI, hM, hF⟩ := hp_
  have hG := hG.kept (hF.z hz)
  have hTb := TI_b hTI
  obtain ⟨hqn, f, hf1, hf2, har, hf3, hcc⟩ := TI_at hTI hq
  have hM0 := hM; obtain ⟨hz, hO, hA1, hA2, hA3, hA4, hA5, hA6, hA7, hA8, hA9, hA10, hA11, hA12⟩ := hM0
  have hO : pb_O w H_ o 2 [.int (iZ ((0))), .int (iZ ((S.1 1))), .ref (o + 1), .ref (o + 2), .ref (o + 3), .ref (o + 4), .ref (o + 5), .ref (o + 6), .ref (o + 7), .ref (o + 8), .ref (o + 9), .ref (o + 10), .ref (o + 11), .ref (o + 12), .int (iZ (((on : Nat) : Int))), .int (iZ (((cn : Nat) : Int)))] := hO
  have hA1 : pb_A w H_ (o + 1) 0 192 (pb_nf (S.2.1 0)) := hA1
  have hA2 : pb_A w H_ (o + 2) 0 24 (pb_nf (S.2.1 1)) := hA2
  have hA3 : pb_A w H_ (o + 3) 0 26 (pb_nf (S.2.1 2)) := hA3
  have hA4 : pb_A w H_ (o + 4) 0 26 (pb_nf (S.2.1 3)) := hA4
  have hA5 : pb_A w H_ (o + 5) 0 40 (pb_zf (S.2.2 0)) := hA5
  have hA6 : pb_A w H_ (o + 6) 0 40 (pb_zf (S.2.2 1)) := hA6
  have hA7 : pb_A w H_ (o + 7) 0 576 (pb_zf (S.2.2 2)) := hA7
  have hA8 : pb_A w H_ (o + 8) 0 1300 (pb_zf (cx)) := hA8
  have hA9 : pb_A w H_ (o + 9) 0 1300 (pb_zf (cy)) := hA9
  have hA10 : pb_A w H_ (o + 10) 0 400 (pb_zf (bg)) := hA10
  have hA11 : pb_A w H_ (o + 11) 0 400 (pb_zf (ar)) := hA11
  have hA12 : pb_A w H_ (o + 12) 0 625 (pb_nf (W)) := hA12
  refine pb_if_ne C dX3_looksAtCorner_6 (x := 1) (tgt := 11) (by decide) (by omega) (fun c6_ => ?_) (fun c6_ => ?_)
  · refine pb_aload_n C dX3_looksAtCorner_11 rfl (lv_at hl 0 rfl) ?_
    refine pb_iload_n C dX3_looksAtCorner_12 rfl (lv_at hl 3 rfl) ?_
    refine pb_ic C dX3_looksAtCorner_13 ?_
    refine pb_aload_n C dX3_looksAtCorner_14 rfl (lv_at hl 0 rfl) ?_
    refine pb_get C in_X3 hO.r (ci := 2) rfl 11 (by decide) q1748 (fun _ h9 => h9) (v := .ref (o + 10)) rfl dX3_looksAtCorner_15 ?_
    refine pb_iload_n C dX3_looksAtCorner_18 rfl (lv_at hl 2 rfl) ?_
    refine pb_ic C dX3_looksAtCorner_19 ?_
    refine pb_iadd C dX3_looksAtCorner_20 ?_
    refine pb_iald C hA10.b (i := (((q + 1) : Nat) : Int)) (v := .int (iZ ((((f + (crn (mg S s) d).length) : Nat) : Int)))) (by omega) (congrArg (fun z : Int => Value.int (iZ z)) hf2) dX3_looksAtCorner_21 ?_
    refine pb_aload_n C dX3_looksAtCorner_22 rfl (lv_at hl 0 rfl) ?_
    refine pb_get C in_X3 hO.r (ci := 2) rfl 11 (by decide) q1748 (fun _ h9 => h9) (v := .ref (o + 10)) rfl dX3_looksAtCorner_23 ?_
    refine pb_iload_n C dX3_looksAtCorner_26 rfl (lv_at hl 2 rfl) ?_
    refine pb_iald C hA10.b (i := ((q : Nat) : Int)) (v := .int (iZ (((f : Nat) : Int)))) (by omega) (congrArg (fun z : Int => Value.int (iZ z)) hf1) dX3_looksAtCorner_27 ?_
    refine pb_isub C dX3_looksAtCorner_28 ?_
    refine pb_eq (g2 := F0 m_ 29 ls [.int (iZ ((((crn (mg S s) d).length : Nat) : Int))), .int (iZ (0)), .int (iZ (c)), .ref (o)]) (congrArg (fun z9 => F0 m_ 29 ls [.int (iZ z9), .int (iZ (0)), .int (iZ (c)), .ref (o)]) (show ((((f + (crn (mg S s) d).length) : Nat) : Int) - ((f : Nat) : Int)) = (((crn (mg S s) d).length : Nat) : Int) from (by omega))) ?_
    refine pb_ic C dX3_looksAtCorner_29 ?_
    refine pb_isub C dX3_looksAtCorner_30 ?_
    refine pb_go_x (bc' := 0) (bs' := 0) (pb_runS (rest := [.ref (o)]) C hG (met_X3_isIn l c 0 ((((crn (mg S s) d).length : Nat) : Int) - 1) (by omega) (by omega) (by omega)) (lw_S q1797 q1798 q60 q1799) hdX3_isIn rfl hl.1 rfl (Nat.le_of_ble_eq_true rfl) ⟨(Nat.le_of_ble_eq_true rfl), (Nat.le_of_ble_eq_true rfl)⟩ dX3_looksAtCorner_31) (by omega) (by omega) ?_
    refine pb_ifB_eq C dX3_looksAtCorner_34 (tgt := 41) (by decide) (fun c34_ => ?_) (fun c34_ => ?_)
    · have c34_ := of_decide_eq_false c34_
      refine pb_ic C dX3_looksAtCorner_41 ?_
      refine pb_put C in_X3 tyX3 tyX3_ok nmX3 hO (ci := 2) rfl 0 (by decide) q1737 (fun _ h9 => h9) rfl (v := .int (iZ (2))) rfl rfl (Nat.le_of_ble_eq_true rfl) (by omega) dX3_looksAtCorner_42 fun H1_ hu_ hO => ?_
      have hO : pb_O w H1_ (o) 2 [.int (iZ (2)), .int (iZ ((S.1 1))), .ref (o + 1), .ref (o + 2), .ref (o + 3), .ref (o + 4), .ref (o + 5), .ref (o + 6), .ref (o + 7), .ref (o + 8), .ref (o + 9), .ref (o + 10), .ref (o + 11), .ref (o + 12), .int (iZ (((on : Nat) : Int))), .int (iZ (((cn : Nat) : Int)))] := hO
      have hG := hG.kept (hu_.z (by omega))
      have hA1 := hA1.kept (hu_.2 _ (by omega))
      have hA2 := hA2.kept (hu_.2 _ (by omega))
      have hA3 := hA3.kept (hu_.2 _ (by omega))
      have hA4 := hA4.kept (hu_.2 _ (by omega))
      have hA5 := hA5.kept (hu_.2 _ (by omega))
      have hA6 := hA6.kept (hu_.2 _ (by omega))
      have hA7 := hA7.kept (hu_.2 _ (by omega))
      have hA8 := hA8.kept (hu_.2 _ (by omega))
      have hA9 := hA9.kept (hu_.2 _ (by omega))
      have hA10 := hA10.kept (hu_.2 _ (by omega))
      have hA11 := hA11.kept (hu_.2 _ (by omega))
      have hA12 := hA12.kept (hu_.2 _ (by omega))
      have hF := hF.up hu_ (by omega)
      refine pb_aload_n C dX3_looksAtCorner_45 rfl (lv_at hl 0 rfl) ?_
      refine pb_get C in_X3 hO.r (ci := 2) rfl 0 (by decide) q1737 (fun _ h9 => h9) (v := .int (iZ (2))) rfl dX3_looksAtCorner_46 ?_
      refine pb_if_ne C dX3_looksAtCorner_49 (x := 2) (tgt := 56) (by decide) (by omega) (fun c49_ => ?_) (fun c49_ => ?_)
      · refine pb_ic C dX3_looksAtCorner_56 ?_
        exact pb_zret C dX3_looksAtCorner_57 (by decide +kernel) (⟨_, rfl, rfl, W, cx, cy, bg, ar, on, cn, hTI, ⟨hz, hO, hA1, hA2, hA3, hA4, hA5, hA6, hA7, hA8, hA9, hA10, hA11, hA12⟩, hF⟩)
      · exact absurd c49_ (by decide)
    · have c34_ := of_decide_eq_true c34_
      omega
  · exact absurd c6_ (by decide)

set_option maxHeartbeats 1000000 in
theorem met_X3_looksAtCorner_2 {w : pb_W} (l : Launch) {H0 : Heap} (o : Nat) (S : mS) (hM : MW w H0 o S) (s : Nat) (hs : s < 8) (hb : mok S) (q : Int) (hqr : -2147483648 ≤ q ∧ q ≤ 2147483647) (hq : ¬ (0 ≤ q ∧ q < (((outs (mg S s) 2500).length : Nat) : Int))) (c : Int) (hcr : -2147483648 ≤ c ∧ c ≤ 2147483647) : pb_M w l yX3_looksAtCorner cX3_looksAtCorner 4 (some .boolean) 8 (0) (0) [.ref (o), .int (iZ (((s : Nat) : Int))), .int (iZ (q)), .int (iZ (c))] H0 (pb_qi (fun z H1 => z = 0 ∧ ∃ W cx cy bg ar on cn, TI (mg S s) 2500 W cx cy bg ar on cn ∧ MW w H1 o (mT (mI S 0 2) W cx cy bg ar ((on : Nat) : Int) ((cn : Nat) : Int)) ∧ mF o H0 H1)) := by
  refine pb_of (by decide +kernel) (Nat.le_of_ble_eq_true rfl) ?_
  intro p_ e_ s_ m_ ar_ bl_ me_ co_ ls C hh hG hl
  have hl : lv_has ls 4 [(0, .ref (o)), (1, .int (iZ (((s : Nat) : Int)))), (2, .int (iZ (q))), (3, .int (iZ (c)))] := hl
  have hM0 := hM; obtain ⟨hz, hO, hA1, hA2, hA3, hA4, hA5, hA6, hA7, hA8, hA9, hA10, hA11, hA12⟩ := hM0
  have hF : mF o H0 H0 := mF.rf
  refine pb_aload_n C dX3_looksAtCorner_0 rfl (lv_at hl 0 rfl) ?_
  refine pb_iload_n C dX3_looksAtCorner_1 rfl (lv_at hl 1 rfl) ?_
  refine pb_iload_n C dX3_looksAtCorner_2 rfl (lv_at hl 2 rfl) ?_
  refine pb_go_i (bc' := 0) (bs' := 0) (pb_runV (rest := []) C hG (met_X3_looksAtOutline_2 l o S hM s hs hb q hqr hq) hO.r (ci := 2) rfl (lw_V q2071 q2073 qs48 q60 q2074) ⟨rfl, hdX3_looksAtOutline⟩ rfl hl.1 rfl (Nat.le_of_ble_eq_true rfl) ⟨(Nat.le_of_ble_eq_true rfl), (Nat.le_of_ble_eq_true rfl)⟩ dX3_looksAtCorner_3) (by omega) (by omega) (fun z_ H_ hp_ => ?_)
  obtain ⟨rfl, W, cx, cy, bg, ar, on, cn, hTI, hM, hF⟩ := hp_
  refine pb_if_ne C dX3_looksAtCorner_6 (x := 0) (tgt := 11) (by decide) (by omega) (fun c6_ => ?_) (fun c6_ => ?_)
  · exact absurd c6_ (by decide)
  · refine pb_ic C dX3_looksAtCorner_9 ?_
    exact pb_zret C dX3_looksAtCorner_10 (by decide +kernel) (⟨_, rfl, rfl, W, cx, cy, bg, ar, on, cn, hTI, hM, hF⟩)

set_option maxHeartbeats 1000000 in
theorem met_X3_looksAtCorner_1 {w : pb_W} (l : Launch) {H0 : Heap} (o : Nat) (S : mS) (hM : MW w H0 o S) (s : Int) (hsr : -2147483648 ≤ s ∧ s ≤ 2147483647) (hs : ¬ (0 ≤ s ∧ s ≤ 7)) (q : Int) (hqr : -2147483648 ≤ q ∧ q ≤ 2147483647) (c : Int) (hcr : -2147483648 ≤ c ∧ c ≤ 2147483647) : pb_M w l yX3_looksAtCorner cX3_looksAtCorner 4 (some .boolean) 8 (0) (0) [.ref (o), .int (iZ (s)), .int (iZ (q)), .int (iZ (c))] H0 (pb_qi (fun z H1 => z = 0 ∧ MW w H1 o (mI S 0 1) ∧ mF o H0 H1)) := by
  refine pb_of (by decide +kernel) (Nat.le_of_ble_eq_true rfl) ?_
  intro p_ e_ s_ m_ ar_ bl_ me_ co_ ls C hh hG hl
  have hl : lv_has ls 4 [(0, .ref (o)), (1, .int (iZ (s))), (2, .int (iZ (q))), (3, .int (iZ (c)))] := hl
  have hM0 := hM; obtain ⟨hz, hO, hA1, hA2, hA3, hA4, hA5, hA6, hA7, hA8, hA9, hA10, hA11, hA12⟩ := hM0
  have hF : mF o H0 H0 := mF.rf
  refine pb_aload_n C dX3_looksAtCorner_0 rfl (lv_at hl 0 rfl) ?_
  refine pb_iload_n C dX3_looksAtCorner_1 rfl (lv_at hl 1 rfl) ?_
  refine pb_iload_n C dX3_looksAtCorner_2 rfl (lv_at hl 2 rfl) ?_
  refine pb_go_i (bc' := 0) (bs' := 0) (pb_runV (rest := []) C hG (met_X3_looksAtOutline_1 l o S hM s hsr hs q hqr) hO.r (ci := 2) rfl (lw_V q2071 q2073 qs48 q60 q2074) ⟨rfl, hdX3_looksAtOutline⟩ rfl hl.1 rfl (Nat.le_of_ble_eq_true rfl) ⟨(Nat.le_of_ble_eq_true rfl), (Nat.le_of_ble_eq_true rfl)⟩ dX3_looksAtCorner_3) (by omega) (by omega) (fun z_ H_ hp_ => ?_)
  obtain ⟨rfl, hM, hF⟩ := hp_
  refine pb_if_ne C dX3_looksAtCorner_6 (x := 0) (tgt := 11) (by decide) (by omega) (fun c6_ => ?_) (fun c6_ => ?_)
  · exact absurd c6_ (by decide)
  · refine pb_ic C dX3_looksAtCorner_9 ?_
    exact pb_zret C dX3_looksAtCorner_10 (by decide +kernel) (⟨_, rfl, rfl, hM, hF⟩)

set_option maxHeartbeats 1000000 in
theorem met_X3_cornerX {w : pb_W} (l : Launch) {H0 : Heap} (o : Nat) (S : mS) (hM : MW w H0 o S) (s : Nat) (hs : s < 8) (hb : mok S) (q : Nat) (d : Nat × Nat × Nat) (hq : (outs (mg S s) 2500)[q]? = some d) (c : Nat) (e : Nat × Nat × Nat) (hc : (crn (mg S s) d)[c]? = some e) : pb_M w l yX3_cornerX cX3_cornerX 4 (some .int) 9 (0) (0) [.ref (o), .int (iZ (((s : Nat) : Int))), .int (iZ (((q : Nat) : Int))), .int (iZ (((c : Nat) : Int)))] H0 (pb_qi (fun z H1 => z = ((e.1 : Nat) : Int) ∧ ∃ W cx cy bg ar on cn, TI (mg S s) 2500 W cx cy bg ar on cn ∧ MW w H1 o (mT (mI S 0 0) W cx cy bg ar ((on : Nat) : Int) ((cn : Nat) : Int)) ∧ mF o H0 H1)) := by
  refine pb_of (by decide +kernel) (Nat.le_of_ble_eq_true rfl) ?_
  intro p_ e_ s_ m_ ar_ bl_ me_ co_ ls C hh hG hl
  have hl : lv_has ls 4 [(0, .ref (o)), (1, .int (iZ (((s : Nat) : Int)))), (2, .int (iZ (((q : Nat) : Int)))), (3, .int (iZ (((c : Nat) : Int))))] := hl
  have hM0 := hM; obtain ⟨hz, hO, hA1, hA2, hA3, hA4, hA5, hA6, hA7, hA8, hA9, hA10, hA11, hA12⟩ := hM0
  have hF : mF o H0 H0 := mF.rf
  refine pb_aload_n C dX3_cornerX_0 rfl (lv_at hl 0 rfl) ?_
  refine pb_iload_n C dX3_cornerX_1 rfl (lv_at hl 1 rfl) ?_
  refine pb_iload_n C dX3_cornerX_2 rfl (lv_at hl 2 rfl) ?_
  refine pb_iload_n C dX3_cornerX_3 rfl (lv_at hl 3 rfl) ?_
  refine pb_go_i (bc' := 0) (bs' := 0) (pb_runV (rest := []) C hG (met_X3_looksAtCorner l o S hM s hs hb q d hq c (List.getElem?_eq_some_iff.mp hc).1) hO.r (ci := 2) rfl (lw_V q2079 q2081 qs49 q60 q2082) ⟨rfl, hdX3_looksAtCorner⟩ rfl hl.1 rfl (Nat.le_of_ble_eq_true rfl) ⟨(Nat.le_of_ble_eq_true rfl), (Nat.le_of_ble_eq_true rfl)⟩ dX3_cornerX_4) (by omega) (by omega) (fun z_ H_ hp_ => ?_)
  obtain ⟨rfl, W, cx, cy, bg, ar, on, cn, hTI, hM, hF⟩ := hp_
  have hG := hG.kept (hF.z hz)
  have hTb := TI_b hTI
  obtain ⟨hqn, f, hf1, hf2, har, hf3, hcc⟩ := TI_at hTI hq
  have hcl := (List.getElem?_eq_some_iff.mp hc).1
  have hce := hcc c e hc
  have hM0 := hM; obtain ⟨hz, hO, hA1, hA2, hA3, hA4, hA5, hA6, hA7, hA8, hA9, hA10, hA11, hA12⟩ := hM0
  have hO : pb_O w H_ o 2 [.int (iZ ((0))), .int (iZ ((S.1 1))), .ref (o + 1), .ref (o + 2), .ref (o + 3), .ref (o + 4), .ref (o + 5), .ref (o + 6), .ref (o + 7), .ref (o + 8), .ref (o + 9), .ref (o + 10), .ref (o + 11), .ref (o + 12), .int (iZ (((on : Nat) : Int))), .int (iZ (((cn : Nat) : Int)))] := hO
  have hA1 : pb_A w H_ (o + 1) 0 192 (pb_nf (S.2.1 0)) := hA1
  have hA2 : pb_A w H_ (o + 2) 0 24 (pb_nf (S.2.1 1)) := hA2
  have hA3 : pb_A w H_ (o + 3) 0 26 (pb_nf (S.2.1 2)) := hA3
  have hA4 : pb_A w H_ (o + 4) 0 26 (pb_nf (S.2.1 3)) := hA4
  have hA5 : pb_A w H_ (o + 5) 0 40 (pb_zf (S.2.2 0)) := hA5
  have hA6 : pb_A w H_ (o + 6) 0 40 (pb_zf (S.2.2 1)) := hA6
  have hA7 : pb_A w H_ (o + 7) 0 576 (pb_zf (S.2.2 2)) := hA7
  have hA8 : pb_A w H_ (o + 8) 0 1300 (pb_zf (cx)) := hA8
  have hA9 : pb_A w H_ (o + 9) 0 1300 (pb_zf (cy)) := hA9
  have hA10 : pb_A w H_ (o + 10) 0 400 (pb_zf (bg)) := hA10
  have hA11 : pb_A w H_ (o + 11) 0 400 (pb_zf (ar)) := hA11
  have hA12 : pb_A w H_ (o + 12) 0 625 (pb_nf (W)) := hA12
  refine pb_if_eq C dX3_cornerX_7 (x := 1) (tgt := 26) (by decide) (by omega) (fun c7_ => ?_) (fun c7_ => ?_)
  · exact absurd c7_ (by decide)
  · refine pb_aload_n C dX3_cornerX_10 rfl (lv_at hl 0 rfl) ?_
    refine pb_get C in_X3 hO.r (ci := 2) rfl 9 (by decide) q1746 (fun _ h9 => h9) (v := .ref (o + 8)) rfl dX3_cornerX_11 ?_
    refine pb_aload_n C dX3_cornerX_14 rfl (lv_at hl 0 rfl) ?_
    refine pb_get C in_X3 hO.r (ci := 2) rfl 11 (by decide) q1748 (fun _ h9 => h9) (v := .ref (o + 10)) rfl dX3_cornerX_15 ?_
    refine pb_iload_n C dX3_cornerX_18 rfl (lv_at hl 2 rfl) ?_
    refine pb_iald C hA10.b (i := ((q : Nat) : Int)) (v := .int (iZ (((f : Nat) : Int)))) (by omega) (congrArg (fun z : Int => Value.int (iZ z)) hf1) dX3_cornerX_19 ?_
    refine pb_iload_n C dX3_cornerX_20 rfl (lv_at hl 3 rfl) ?_
    refine pb_iadd C dX3_cornerX_21 ?_
    refine pb_iald C hA8.b (i := (((f + c) : Nat) : Int)) (v := .int (iZ ((((e.1) : Nat) : Int)))) (by omega) (congrArg (fun z : Int => Value.int (iZ z)) hce.1) dX3_cornerX_22 ?_
    refine pb_goto C dX3_cornerX_23 (tgt := 27) (by decide) ?_
    exact pb_iret C dX3_cornerX_27 (⟨_, rfl, rfl, W, cx, cy, bg, ar, on, cn, hTI, hM, hF⟩)

set_option maxHeartbeats 1000000 in
theorem met_X3_cornerX_3 {w : pb_W} (l : Launch) {H0 : Heap} (o : Nat) (S : mS) (hM : MW w H0 o S) (s : Nat) (hs : s < 8) (hb : mok S) (q : Nat) (d : Nat × Nat × Nat) (hq : (outs (mg S s) 2500)[q]? = some d) (c : Int) (hcr : -2147483648 ≤ c ∧ c ≤ 2147483647) (hc : ¬ (0 ≤ c ∧ c < (((crn (mg S s) d).length : Nat) : Int))) : pb_M w l yX3_cornerX cX3_cornerX 4 (some .int) 9 (0) (0) [.ref (o), .int (iZ (((s : Nat) : Int))), .int (iZ (((q : Nat) : Int))), .int (iZ (c))] H0 (pb_qi (fun z H1 => z = 0 ∧ ∃ W cx cy bg ar on cn, TI (mg S s) 2500 W cx cy bg ar on cn ∧ MW w H1 o (mT (mI S 0 2) W cx cy bg ar ((on : Nat) : Int) ((cn : Nat) : Int)) ∧ mF o H0 H1)) := by
  refine pb_of (by decide +kernel) (Nat.le_of_ble_eq_true rfl) ?_
  intro p_ e_ s_ m_ ar_ bl_ me_ co_ ls C hh hG hl
  have hl : lv_has ls 4 [(0, .ref (o)), (1, .int (iZ (((s : Nat) : Int)))), (2, .int (iZ (((q : Nat) : Int)))), (3, .int (iZ (c)))] := hl
  have hM0 := hM; obtain ⟨hz, hO, hA1, hA2, hA3, hA4, hA5, hA6, hA7, hA8, hA9, hA10, hA11, hA12⟩ := hM0
  have hF : mF o H0 H0 := mF.rf
  refine pb_aload_n C dX3_cornerX_0 rfl (lv_at hl 0 rfl) ?_
  refine pb_iload_n C dX3_cornerX_1 rfl (lv_at hl 1 rfl) ?_
  refine pb_iload_n C dX3_cornerX_2 rfl (lv_at hl 2 rfl) ?_
  refine pb_iload_n C dX3_cornerX_3 rfl (lv_at hl 3 rfl) ?_
  refine pb_go_i (bc' := 0) (bs' := 0) (pb_runV (rest := []) C hG (met_X3_looksAtCorner_3 l o S hM s hs hb q d hq c hcr hc) hO.r (ci := 2) rfl (lw_V q2079 q2081 qs49 q60 q2082) ⟨rfl, hdX3_looksAtCorner⟩ rfl hl.1 rfl (Nat.le_of_ble_eq_true rfl) ⟨(Nat.le_of_ble_eq_true rfl), (Nat.le_of_ble_eq_true rfl)⟩ dX3_cornerX_4) (by omega) (by omega) (fun z_ H_ hp_ => ?_)
  obtain ⟨rfl, W, cx, cy, bg, ar, on, cn, hTI, hM, hF⟩ := hp_
  refine pb_if_eq C dX3_cornerX_7 (x := 0) (tgt := 26) (by decide) (by omega) (fun c7_ => ?_) (fun c7_ => ?_)
  · refine pb_ic C dX3_cornerX_26 ?_
    exact pb_iret C dX3_cornerX_27 (⟨_, rfl, rfl, W, cx, cy, bg, ar, on, cn, hTI, hM, hF⟩)
  · exact absurd c7_ (by decide)

set_option maxHeartbeats 1000000 in
theorem met_X3_cornerX_2 {w : pb_W} (l : Launch) {H0 : Heap} (o : Nat) (S : mS) (hM : MW w H0 o S) (s : Nat) (hs : s < 8) (hb : mok S) (q : Int) (hqr : -2147483648 ≤ q ∧ q ≤ 2147483647) (hq : ¬ (0 ≤ q ∧ q < (((outs (mg S s) 2500).length : Nat) : Int))) (c : Int) (hcr : -2147483648 ≤ c ∧ c ≤ 2147483647) : pb_M w l yX3_cornerX cX3_cornerX 4 (some .int) 9 (0) (0) [.ref (o), .int (iZ (((s : Nat) : Int))), .int (iZ (q)), .int (iZ (c))] H0 (pb_qi (fun z H1 => z = 0 ∧ ∃ W cx cy bg ar on cn, TI (mg S s) 2500 W cx cy bg ar on cn ∧ MW w H1 o (mT (mI S 0 2) W cx cy bg ar ((on : Nat) : Int) ((cn : Nat) : Int)) ∧ mF o H0 H1)) := by
  refine pb_of (by decide +kernel) (Nat.le_of_ble_eq_true rfl) ?_
  intro p_ e_ s_ m_ ar_ bl_ me_ co_ ls C hh hG hl
  have hl : lv_has ls 4 [(0, .ref (o)), (1, .int (iZ (((s : Nat) : Int)))), (2, .int (iZ (q))), (3, .int (iZ (c)))] := hl
  have hM0 := hM; obtain ⟨hz, hO, hA1, hA2, hA3, hA4, hA5, hA6, hA7, hA8, hA9, hA10, hA11, hA12⟩ := hM0
  have hF : mF o H0 H0 := mF.rf
  refine pb_aload_n C dX3_cornerX_0 rfl (lv_at hl 0 rfl) ?_
  refine pb_iload_n C dX3_cornerX_1 rfl (lv_at hl 1 rfl) ?_
  refine pb_iload_n C dX3_cornerX_2 rfl (lv_at hl 2 rfl) ?_
  refine pb_iload_n C dX3_cornerX_3 rfl (lv_at hl 3 rfl) ?_
  refine pb_go_i (bc' := 0) (bs' := 0) (pb_runV (rest := []) C hG (met_X3_looksAtCorner_2 l o S hM s hs hb q hqr hq c hcr) hO.r (ci := 2) rfl (lw_V q2079 q2081 qs49 q60 q2082) ⟨rfl, hdX3_looksAtCorner⟩ rfl hl.1 rfl (Nat.le_of_ble_eq_true rfl) ⟨(Nat.le_of_ble_eq_true rfl), (Nat.le_of_ble_eq_true rfl)⟩ dX3_cornerX_4) (by omega) (by omega) (fun z_ H_ hp_ => ?_)
  obtain ⟨rfl, W, cx, cy, bg, ar, on, cn, hTI, hM, hF⟩ := hp_
  refine pb_if_eq C dX3_cornerX_7 (x := 0) (tgt := 26) (by decide) (by omega) (fun c7_ => ?_) (fun c7_ => ?_)
  · refine pb_ic C dX3_cornerX_26 ?_
    exact pb_iret C dX3_cornerX_27 (⟨_, rfl, rfl, W, cx, cy, bg, ar, on, cn, hTI, hM, hF⟩)
  · exact absurd c7_ (by decide)

set_option maxHeartbeats 1000000 in
theorem met_X3_cornerX_1 {w : pb_W} (l : Launch) {H0 : Heap} (o : Nat) (S : mS) (hM : MW w H0 o S) (s : Int) (hsr : -2147483648 ≤ s ∧ s ≤ 2147483647) (hs : ¬ (0 ≤ s ∧ s ≤ 7)) (q : Int) (hqr : -2147483648 ≤ q ∧ q ≤ 2147483647) (c : Int) (hcr : -2147483648 ≤ c ∧ c ≤ 2147483647) : pb_M w l yX3_cornerX cX3_cornerX 4 (some .int) 9 (0) (0) [.ref (o), .int (iZ (s)), .int (iZ (q)), .int (iZ (c))] H0 (pb_qi (fun z H1 => z = 0 ∧ MW w H1 o (mI S 0 1) ∧ mF o H0 H1)) := by
  refine pb_of (by decide +kernel) (Nat.le_of_ble_eq_true rfl) ?_
  intro p_ e_ s_ m_ ar_ bl_ me_ co_ ls C hh hG hl
  have hl : lv_has ls 4 [(0, .ref (o)), (1, .int (iZ (s))), (2, .int (iZ (q))), (3, .int (iZ (c)))] := hl
  have hM0 := hM; obtain ⟨hz, hO, hA1, hA2, hA3, hA4, hA5, hA6, hA7, hA8, hA9, hA10, hA11, hA12⟩ := hM0
  have hF : mF o H0 H0 := mF.rf
  refine pb_aload_n C dX3_cornerX_0 rfl (lv_at hl 0 rfl) ?_
  refine pb_iload_n C dX3_cornerX_1 rfl (lv_at hl 1 rfl) ?_
  refine pb_iload_n C dX3_cornerX_2 rfl (lv_at hl 2 rfl) ?_
  refine pb_iload_n C dX3_cornerX_3 rfl (lv_at hl 3 rfl) ?_
  refine pb_go_i (bc' := 0) (bs' := 0) (pb_runV (rest := []) C hG (met_X3_looksAtCorner_1 l o S hM s hsr hs q hqr c hcr) hO.r (ci := 2) rfl (lw_V q2079 q2081 qs49 q60 q2082) ⟨rfl, hdX3_looksAtCorner⟩ rfl hl.1 rfl (Nat.le_of_ble_eq_true rfl) ⟨(Nat.le_of_ble_eq_true rfl), (Nat.le_of_ble_eq_true rfl)⟩ dX3_cornerX_4) (by omega) (by omega) (fun z_ H_ hp_ => ?_)
  obtain ⟨rfl, hM, hF⟩ := hp_
  refine pb_if_eq C dX3_cornerX_7 (x := 0) (tgt := 26) (by decide) (by omega) (fun c7_ => ?_) (fun c7_ => ?_)
  · refine pb_ic C dX3_cornerX_26 ?_
    exact pb_iret C dX3_cornerX_27 (⟨_, rfl, rfl, hM, hF⟩)
  · exact absurd c7_ (by decide)

set_option maxHeartbeats 1000000 in
theorem met_X3_cornerY {w : pb_W} (l : Launch) {H0 : Heap} (o : Nat) (S : mS) (hM : MW w H0 o S) (s : Nat) (hs : s < 8) (hb : mok S) (q : Nat) (d : Nat × Nat × Nat) (hq : (outs (mg S s) 2500)[q]? = some d) (c : Nat) (e : Nat × Nat × Nat) (hc : (crn (mg S s) d)[c]? = some e) : pb_M w l yX3_cornerY cX3_cornerY 4 (some .int) 9 (0) (0) [.ref (o), .int (iZ (((s : Nat) : Int))), .int (iZ (((q : Nat) : Int))), .int (iZ (((c : Nat) : Int)))] H0 (pb_qi (fun z H1 => z = ((e.2.1 : Nat) : Int) ∧ ∃ W cx cy bg ar on cn, TI (mg S s) 2500 W cx cy bg ar on cn ∧ MW w H1 o (mT (mI S 0 0) W cx cy bg ar ((on : Nat) : Int) ((cn : Nat) : Int)) ∧ mF o H0 H1)) := by
  refine pb_of (by decide +kernel) (Nat.le_of_ble_eq_true rfl) ?_
  intro p_ e_ s_ m_ ar_ bl_ me_ co_ ls C hh hG hl
  have hl : lv_has ls 4 [(0, .ref (o)), (1, .int (iZ (((s : Nat) : Int)))), (2, .int (iZ (((q : Nat) : Int)))), (3, .int (iZ (((c : Nat) : Int))))] := hl
  have hM0 := hM; obtain ⟨hz, hO, hA1, hA2, hA3, hA4, hA5, hA6, hA7, hA8, hA9, hA10, hA11, hA12⟩ := hM0
  have hF : mF o H0 H0 := mF.rf
  refine pb_aload_n C dX3_cornerY_0 rfl (lv_at hl 0 rfl) ?_
  refine pb_iload_n C dX3_cornerY_1 rfl (lv_at hl 1 rfl) ?_
  refine pb_iload_n C dX3_cornerY_2 rfl (lv_at hl 2 rfl) ?_
  refine pb_iload_n C dX3_cornerY_3 rfl (lv_at hl 3 rfl) ?_
  refine pb_go_i (bc' := 0) (bs' := 0) (pb_runV (rest := []) C hG (met_X3_looksAtCorner l o S hM s hs hb q d hq c (List.getElem?_eq_some_iff.mp hc).1) hO.r (ci := 2) rfl (lw_V q2079 q2081 qs49 q60 q2082) ⟨rfl, hdX3_looksAtCorner⟩ rfl hl.1 rfl (Nat.le_of_ble_eq_true rfl) ⟨(Nat.le_of_ble_eq_true rfl), (Nat.le_of_ble_eq_true rfl)⟩ dX3_cornerY_4) (by omega) (by omega) (fun z_ H_ hp_ => ?_)
  obtain ⟨rfl, W, cx, cy, bg, ar, on, cn, hTI, hM, hF⟩ := hp_
  have hG := hG.kept (hF.z hz)
  have hTb := TI_b hTI
  obtain ⟨hqn, f, hf1, hf2, har, hf3, hcc⟩ := TI_at hTI hq
  have hcl := (List.getElem?_eq_some_iff.mp hc).1
  have hce := hcc c e hc
  have hM0 := hM; obtain ⟨hz, hO, hA1, hA2, hA3, hA4, hA5, hA6, hA7, hA8, hA9, hA10, hA11, hA12⟩ := hM0
  have hO : pb_O w H_ o 2 [.int (iZ ((0))), .int (iZ ((S.1 1))), .ref (o + 1), .ref (o + 2), .ref (o + 3), .ref (o + 4), .ref (o + 5), .ref (o + 6), .ref (o + 7), .ref (o + 8), .ref (o + 9), .ref (o + 10), .ref (o + 11), .ref (o + 12), .int (iZ (((on : Nat) : Int))), .int (iZ (((cn : Nat) : Int)))] := hO
  have hA1 : pb_A w H_ (o + 1) 0 192 (pb_nf (S.2.1 0)) := hA1
  have hA2 : pb_A w H_ (o + 2) 0 24 (pb_nf (S.2.1 1)) := hA2
  have hA3 : pb_A w H_ (o + 3) 0 26 (pb_nf (S.2.1 2)) := hA3
  have hA4 : pb_A w H_ (o + 4) 0 26 (pb_nf (S.2.1 3)) := hA4
  have hA5 : pb_A w H_ (o + 5) 0 40 (pb_zf (S.2.2 0)) := hA5
  have hA6 : pb_A w H_ (o + 6) 0 40 (pb_zf (S.2.2 1)) := hA6
  have hA7 : pb_A w H_ (o + 7) 0 576 (pb_zf (S.2.2 2)) := hA7
  have hA8 : pb_A w H_ (o + 8) 0 1300 (pb_zf (cx)) := hA8
  have hA9 : pb_A w H_ (o + 9) 0 1300 (pb_zf (cy)) := hA9
  have hA10 : pb_A w H_ (o + 10) 0 400 (pb_zf (bg)) := hA10
  have hA11 : pb_A w H_ (o + 11) 0 400 (pb_zf (ar)) := hA11
  have hA12 : pb_A w H_ (o + 12) 0 625 (pb_nf (W)) := hA12
  refine pb_if_eq C dX3_cornerY_7 (x := 1) (tgt := 26) (by decide) (by omega) (fun c7_ => ?_) (fun c7_ => ?_)
  · exact absurd c7_ (by decide)
  · refine pb_aload_n C dX3_cornerY_10 rfl (lv_at hl 0 rfl) ?_
    refine pb_get C in_X3 hO.r (ci := 2) rfl 10 (by decide) q1747 (fun _ h9 => h9) (v := .ref (o + 9)) rfl dX3_cornerY_11 ?_
    refine pb_aload_n C dX3_cornerY_14 rfl (lv_at hl 0 rfl) ?_
    refine pb_get C in_X3 hO.r (ci := 2) rfl 11 (by decide) q1748 (fun _ h9 => h9) (v := .ref (o + 10)) rfl dX3_cornerY_15 ?_
    refine pb_iload_n C dX3_cornerY_18 rfl (lv_at hl 2 rfl) ?_
    refine pb_iald C hA10.b (i := ((q : Nat) : Int)) (v := .int (iZ (((f : Nat) : Int)))) (by omega) (congrArg (fun z : Int => Value.int (iZ z)) hf1) dX3_cornerY_19 ?_
    refine pb_iload_n C dX3_cornerY_20 rfl (lv_at hl 3 rfl) ?_
    refine pb_iadd C dX3_cornerY_21 ?_
    refine pb_iald C hA9.b (i := (((f + c) : Nat) : Int)) (v := .int (iZ ((((e.2.1) : Nat) : Int)))) (by omega) (congrArg (fun z : Int => Value.int (iZ z)) hce.2) dX3_cornerY_22 ?_
    refine pb_goto C dX3_cornerY_23 (tgt := 27) (by decide) ?_
    exact pb_iret C dX3_cornerY_27 (⟨_, rfl, rfl, W, cx, cy, bg, ar, on, cn, hTI, hM, hF⟩)

set_option maxHeartbeats 1000000 in
theorem met_X3_cornerY_3 {w : pb_W} (l : Launch) {H0 : Heap} (o : Nat) (S : mS) (hM : MW w H0 o S) (s : Nat) (hs : s < 8) (hb : mok S) (q : Nat) (d : Nat × Nat × Nat) (hq : (outs (mg S s) 2500)[q]? = some d) (c : Int) (hcr : -2147483648 ≤ c ∧ c ≤ 2147483647) (hc : ¬ (0 ≤ c ∧ c < (((crn (mg S s) d).length : Nat) : Int))) : pb_M w l yX3_cornerY cX3_cornerY 4 (some .int) 9 (0) (0) [.ref (o), .int (iZ (((s : Nat) : Int))), .int (iZ (((q : Nat) : Int))), .int (iZ (c))] H0 (pb_qi (fun z H1 => z = 0 ∧ ∃ W cx cy bg ar on cn, TI (mg S s) 2500 W cx cy bg ar on cn ∧ MW w H1 o (mT (mI S 0 2) W cx cy bg ar ((on : Nat) : Int) ((cn : Nat) : Int)) ∧ mF o H0 H1)) := by
  refine pb_of (by decide +kernel) (Nat.le_of_ble_eq_true rfl) ?_
  intro p_ e_ s_ m_ ar_ bl_ me_ co_ ls C hh hG hl
  have hl : lv_has ls 4 [(0, .ref (o)), (1, .int (iZ (((s : Nat) : Int)))), (2, .int (iZ (((q : Nat) : Int)))), (3, .int (iZ (c)))] := hl
  have hM0 := hM; obtain ⟨hz, hO, hA1, hA2, hA3, hA4, hA5, hA6, hA7, hA8, hA9, hA10, hA11, hA12⟩ := hM0
  have hF : mF o H0 H0 := mF.rf
  refine pb_aload_n C dX3_cornerY_0 rfl (lv_at hl 0 rfl) ?_
  refine pb_iload_n C dX3_cornerY_1 rfl (lv_at hl 1 rfl) ?_
  refine pb_iload_n C dX3_cornerY_2 rfl (lv_at hl 2 rfl) ?_
  refine pb_iload_n C dX3_cornerY_3 rfl (lv_at hl 3 rfl) ?_
  refine pb_go_i (bc' := 0) (bs' := 0) (pb_runV (rest := []) C hG (met_X3_looksAtCorner_3 l o S hM s hs hb q d hq c hcr hc) hO.r (ci := 2) rfl (lw_V q2079 q2081 qs49 q60 q2082) ⟨rfl, hdX3_looksAtCorner⟩ rfl hl.1 rfl (Nat.le_of_ble_eq_true rfl) ⟨(Nat.le_of_ble_eq_true rfl), (Nat.le_of_ble_eq_true rfl)⟩ dX3_cornerY_4) (by omega) (by omega) (fun z_ H_ hp_ => ?_)
  obtain ⟨rfl, W, cx, cy, bg, ar, on, cn, hTI, hM, hF⟩ := hp_
  refine pb_if_eq C dX3_cornerY_7 (x := 0) (tgt := 26) (by decide) (by omega) (fun c7_ => ?_) (fun c7_ => ?_)
  · refine pb_ic C dX3_cornerY_26 ?_
    exact pb_iret C dX3_cornerY_27 (⟨_, rfl, rfl, W, cx, cy, bg, ar, on, cn, hTI, hM, hF⟩)
  · exact absurd c7_ (by decide)

set_option maxHeartbeats 1000000 in
theorem met_X3_cornerY_2 {w : pb_W} (l : Launch) {H0 : Heap} (o : Nat) (S : mS) (hM : MW w H0 o S) (s : Nat) (hs : s < 8) (hb : mok S) (q : Int) (hqr : -2147483648 ≤ q ∧ q ≤ 2147483647) (hq : ¬ (0 ≤ q ∧ q < (((outs (mg S s) 2500).length : Nat) : Int))) (c : Int) (hcr : -2147483648 ≤ c ∧ c ≤ 2147483647) : pb_M w l yX3_cornerY cX3_cornerY 4 (some .int) 9 (0) (0) [.ref (o), .int (iZ (((s : Nat) : Int))), .int (iZ (q)), .int (iZ (c))] H0 (pb_qi (fun z H1 => z = 0 ∧ ∃ W cx cy bg ar on cn, TI (mg S s) 2500 W cx cy bg ar on cn ∧ MW w H1 o (mT (mI S 0 2) W cx cy bg ar ((on : Nat) : Int) ((cn : Nat) : Int)) ∧ mF o H0 H1)) := by
  refine pb_of (by decide +kernel) (Nat.le_of_ble_eq_true rfl) ?_
  intro p_ e_ s_ m_ ar_ bl_ me_ co_ ls C hh hG hl
  have hl : lv_has ls 4 [(0, .ref (o)), (1, .int (iZ (((s : Nat) : Int)))), (2, .int (iZ (q))), (3, .int (iZ (c)))] := hl
  have hM0 := hM; obtain ⟨hz, hO, hA1, hA2, hA3, hA4, hA5, hA6, hA7, hA8, hA9, hA10, hA11, hA12⟩ := hM0
  have hF : mF o H0 H0 := mF.rf
  refine pb_aload_n C dX3_cornerY_0 rfl (lv_at hl 0 rfl) ?_
  refine pb_iload_n C dX3_cornerY_1 rfl (lv_at hl 1 rfl) ?_
  refine pb_iload_n C dX3_cornerY_2 rfl (lv_at hl 2 rfl) ?_
  refine pb_iload_n C dX3_cornerY_3 rfl (lv_at hl 3 rfl) ?_
  refine pb_go_i (bc' := 0) (bs' := 0) (pb_runV (rest := []) C hG (met_X3_looksAtCorner_2 l o S hM s hs hb q hqr hq c hcr) hO.r (ci := 2) rfl (lw_V q2079 q2081 qs49 q60 q2082) ⟨rfl, hdX3_looksAtCorner⟩ rfl hl.1 rfl (Nat.le_of_ble_eq_true rfl) ⟨(Nat.le_of_ble_eq_true rfl), (Nat.le_of_ble_eq_true rfl)⟩ dX3_cornerY_4) (by omega) (by omega) (fun z_ H_ hp_ => ?_)
  obtain ⟨rfl, W, cx, cy, bg, ar, on, cn, hTI, hM, hF⟩ := hp_
  refine pb_if_eq C dX3_cornerY_7 (x := 0) (tgt := 26) (by decide) (by omega) (fun c7_ => ?_) (fun c7_ => ?_)
  · refine pb_ic C dX3_cornerY_26 ?_
    exact pb_iret C dX3_cornerY_27 (⟨_, rfl, rfl, W, cx, cy, bg, ar, on, cn, hTI, hM, hF⟩)
  · exact absurd c7_ (by decide)

set_option maxHeartbeats 1000000 in
theorem met_X3_cornerY_1 {w : pb_W} (l : Launch) {H0 : Heap} (o : Nat) (S : mS) (hM : MW w H0 o S) (s : Int) (hsr : -2147483648 ≤ s ∧ s ≤ 2147483647) (hs : ¬ (0 ≤ s ∧ s ≤ 7)) (q : Int) (hqr : -2147483648 ≤ q ∧ q ≤ 2147483647) (c : Int) (hcr : -2147483648 ≤ c ∧ c ≤ 2147483647) : pb_M w l yX3_cornerY cX3_cornerY 4 (some .int) 9 (0) (0) [.ref (o), .int (iZ (s)), .int (iZ (q)), .int (iZ (c))] H0 (pb_qi (fun z H1 => z = 0 ∧ MW w H1 o (mI S 0 1) ∧ mF o H0 H1)) := by
  refine pb_of (by decide +kernel) (Nat.le_of_ble_eq_true rfl) ?_
  intro p_ e_ s_ m_ ar_ bl_ me_ co_ ls C hh hG hl
  have hl : lv_has ls 4 [(0, .ref (o)), (1, .int (iZ (s))), (2, .int (iZ (q))), (3, .int (iZ (c)))] := hl
  have hM0 := hM; obtain ⟨hz, hO, hA1, hA2, hA3, hA4, hA5, hA6, hA7, hA8, hA9, hA10, hA11, hA12⟩ := hM0
  have hF : mF o H0 H0 := mF.rf
  refine pb_aload_n C dX3_cornerY_0 rfl (lv_at hl 0 rfl) ?_
  refine pb_iload_n C dX3_cornerY_1 rfl (lv_at hl 1 rfl) ?_
  refine pb_iload_n C dX3_cornerY_2 rfl (lv_at hl 2 rfl) ?_
  refine pb_iload_n C dX3_cornerY_3 rfl (lv_at hl 3 rfl) ?_
  refine pb_go_i (bc' := 0) (bs' := 0) (pb_runV (rest := []) C hG (met_X3_looksAtCorner_1 l o S hM s hsr hs q hqr c hcr) hO.r (ci := 2) rfl (lw_V q2079 q2081 qs49 q60 q2082) ⟨rfl, hdX3_looksAtCorner⟩ rfl hl.1 rfl (Nat.le_of_ble_eq_true rfl) ⟨(Nat.le_of_ble_eq_true rfl), (Nat.le_of_ble_eq_true rfl)⟩ dX3_cornerY_4) (by omega) (by omega) (fun z_ H_ hp_ => ?_)
  obtain ⟨rfl, hM, hF⟩ := hp_
  refine pb_if_eq C dX3_cornerY_7 (x := 0) (tgt := 26) (by decide) (by omega) (fun c7_ => ?_) (fun c7_ => ?_)
  · refine pb_ic C dX3_cornerY_26 ?_
    exact pb_iret C dX3_cornerY_27 (⟨_, rfl, rfl, hM, hF⟩)
  · exact absurd c7_ (by decide)

