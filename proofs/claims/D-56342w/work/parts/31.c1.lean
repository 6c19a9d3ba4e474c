set_option maxRecDepth 100000
set_option maxHeartbeats 1000000 in
theorem met_X4_size {w : pb_W} (l : Launch) {H : Heap} (a : Nat) (P : Nat → Prop) (E : List Int) (hS : Sp w H P a E)  : pb_M w l yX4_size cX4_size 1 (some .int) 0 (0) (0) [.ref (a)] H (pb_qx (.int (iZ ((E.length / 2 : Nat) : Int))) H) := by
  refine pb_of (by decide +kernel) (Nat.le_of_ble_eq_true rfl) ?_
  intro p_ e_ s_ m_ ar_ bl_ me_ co_ ls C hh hG hl
  have hl : lv_has ls 1 [(0, .ref (a))] := hl
  have hS_ := hS
  obtain ⟨e, mE, f, hPa, hPe, hO, hA, hag, hle, hrg, hm⟩ := hS_
  refine pb_aload_n C dX4_size_0 rfl (lv_at hl 0 rfl) ?_
  refine pb_get C in_X4 hO (ci := 3) rfl 1 (by decide) q411 (fun _ h9 => h9) (v := .int (iZ (((E.length : Nat) : Int)))) rfl dX4_size_1 ?_
  refine pb_ic C dX4_size_4 ?_
  refine pb_idiv C dX4_size_5 (x := ((E.length : Nat) : Int)) (y := 2) (by omega) (by omega) (by omega) ?_
  exact pb_iret C dX4_size_6 (⟨rfl, rfl⟩)

set_option maxHeartbeats 1000000 in
theorem met_X4_left {w : pb_W} (l : Launch) {H : Heap} (a : Nat) (P : Nat → Prop) (E : List Int) (hS : Sp w H P a E) (i : Nat) (hi : 2 * i + 1 < E.length) : pb_M w l yX4_left cX4_left 2 (some .int) 0 (0) (0) [.ref (a), .int (iZ (((i : Nat) : Int)))] H (pb_qx (.int (iZ (eE E (2 * i)))) H) := by
  refine pb_of (by decide +kernel) (Nat.le_of_ble_eq_true rfl) ?_
  intro p_ e_ s_ m_ ar_ bl_ me_ co_ ls C hh hG hl
  have hl : lv_has ls 2 [(0, .ref (a)), (1, .int (iZ (((i : Nat) : Int))))] := hl
  have hS_ := hS
  obtain ⟨e, mE, f, hPa, hPe, hO, hA, hag, hle, hrg, hm⟩ := hS_
  refine pb_aload_n C dX4_left_0 rfl (lv_at hl 0 rfl) ?_
  refine pb_get C in_X4 hO (ci := 3) rfl 0 (by decide) q410 (fun _ h9 => h9) (v := .ref (e)) rfl dX4_left_1 ?_
  refine pb_ic C dX4_left_4 ?_
  refine pb_iload_n C dX4_left_5 rfl (lv_at hl 1 rfl) ?_
  refine pb_imul C dX4_left_6 ?_
  refine pb_iald C hA (i := (((2 * i) : Nat) : Int)) (v := .int (iZ ((eE E (2 * i))))) (by omega) (congrArg (fun z : Int => Value.int (iZ z)) (show f (2 * i) = eE E (2 * i) from eE_at hag (by omega))) dX4_left_7 ?_
  exact pb_iret C dX4_left_8 (⟨rfl, rfl⟩)

set_option maxHeartbeats 1000000 in
theorem met_X4_right {w : pb_W} (l : Launch) {H : Heap} (a : Nat) (P : Nat → Prop) (E : List Int) (hS : Sp w H P a E) (i : Nat) (hi : 2 * i + 1 < E.length) : pb_M w l yX4_right cX4_right 2 (some .int) 0 (0) (0) [.ref (a), .int (iZ (((i : Nat) : Int)))] H (pb_qx (.int (iZ (eE E (2 * i + 1)))) H) := by
  refine pb_of (by decide +kernel) (Nat.le_of_ble_eq_true rfl) ?_
  intro p_ e_ s_ m_ ar_ bl_ me_ co_ ls C hh hG hl
  have hl : lv_has ls 2 [(0, .ref (a)), (1, .int (iZ (((i : Nat) : Int))))] := hl
  have hS_ := hS
  obtain ⟨e, mE, f, hPa, hPe, hO, hA, hag, hle, hrg, hm⟩ := hS_
  refine pb_aload_n C dX4_right_0 rfl (lv_at hl 0 rfl) ?_
  refine pb_get C in_X4 hO (ci := 3) rfl 0 (by decide) q410 (fun _ h9 => h9) (v := .ref (e)) rfl dX4_right_1 ?_
  refine pb_ic C dX4_right_4 ?_
  refine pb_iload_n C dX4_right_5 rfl (lv_at hl 1 rfl) ?_
  refine pb_imul C dX4_right_6 ?_
  refine pb_ic C dX4_right_7 ?_
  refine pb_iadd C dX4_right_8 ?_
  refine pb_iald C hA (i := ((((2 * i) + 1) : Nat) : Int)) (v := .int (iZ ((eE E (2 * i + 1))))) (by omega) (congrArg (fun z : Int => Value.int (iZ z)) (show f (2 * i + 1) = eE E (2 * i + 1) from eE_at hag (by omega))) dX4_right_9 ?_
  exact pb_iret C dX4_right_10 (⟨rfl, rfl⟩)

set_option maxHeartbeats 1000000 in
theorem met_X4_width {w : pb_W} (l : Launch) {H : Heap} (a : Nat) (P : Nat → Prop) (E : List Int) (hS : Sp w H P a E) (i : Nat) (hi : 2 * i + 1 < E.length) : pb_M w l yX4_width cX4_width 2 (some .int) 1 (0) (0) [.ref (a), .int (iZ (((i : Nat) : Int)))] H (pb_qx (.int (iZ (eE E (2 * i + 1) - eE E (2 * i)))) H) := by
  refine pb_of (by decide +kernel) (Nat.le_of_ble_eq_true rfl) ?_
  intro p_ e_ s_ m_ ar_ bl_ me_ co_ ls C hh hG hl
  have hl : lv_has ls 2 [(0, .ref (a)), (1, .int (iZ (((i : Nat) : Int))))] := hl
  have hS_ := hS
  obtain ⟨e, mE, f, hPa, hPe, hO, hA, hag, hle, hrg, hm⟩ := hS_
  refine pb_aload_n C dX4_width_0 rfl (lv_at hl 0 rfl) ?_
  refine pb_iload_n C dX4_width_1 rfl (lv_at hl 1 rfl) ?_
  refine pb_go_x (bc' := 0) (bs' := 0) (pb_runV (rest := []) C hG (met_X4_right l a P E hS i (by omega)) hO (ci := 3) rfl (lw_V q882 q592 q593 q70 q594) ⟨rfl, hdX4_right⟩ rfl hl.1 rfl (Nat.le_of_ble_eq_true rfl) ⟨(Nat.le_of_ble_eq_true rfl), (Nat.le_of_ble_eq_true rfl)⟩ dX4_width_2) (by omega) (by omega) ?_
  refine pb_aload_n C dX4_width_5 rfl (lv_at hl 0 rfl) ?_
  refine pb_iload_n C dX4_width_6 rfl (lv_at hl 1 rfl) ?_
  refine pb_go_x (bc' := 0) (bs' := 0) (pb_runV (rest := [.int (iZ ((eE E (2 * i + 1))))]) C hG (met_X4_left l a P E hS i (by omega)) hO (ci := 3) rfl (lw_V q881 q588 q589 q70 q590) ⟨rfl, hdX4_left⟩ rfl hl.1 rfl (Nat.le_of_ble_eq_true rfl) ⟨(Nat.le_of_ble_eq_true rfl), (Nat.le_of_ble_eq_true rfl)⟩ dX4_width_7) (by omega) (by omega) ?_
  refine pb_isub C dX4_width_10 ?_
  exact pb_iret C dX4_width_11 (⟨rfl, rfl⟩)

set_option maxHeartbeats 1000000 in
theorem met_X4_length {w : pb_W} (l : Launch) {H : Heap} (a : Nat) (P : Nat → Prop) (E : List Int) (hS : Sp w H P a E)  : pb_M w l yX4_length cX4_length 3 (some .int) 2 (0) (0) [.ref (a)] H (pb_qx (.int (iZ (lenE E (E.length / 2)))) H) := by
  refine pb_of (by decide +kernel) (Nat.le_of_ble_eq_true rfl) ?_
  intro p_ e_ s_ m_ ar_ bl_ me_ co_ ls C hh hG hl
  have hl : lv_has ls 3 [(0, .ref (a))] := hl
  have hS_ := hS
  obtain ⟨e, mE, f, hPa, hPe, hO, hA, hag, hle, hrg, hm⟩ := hS_
  have L4 : ∀ (n_ : Nat) (k : Nat) (t : Int), E.length / 2 - k = n_ → (k ≤ E.length / 2) → (t = lenE E k) → ∀ (ls : Array Slot), lv_has ls 3 [(0, .ref (a)), (1, .int (iZ (t))), (2, .int (iZ (((k : Nat) : Int))))] → pb_V w.2.2.2 p_ l e_ (pb_rm 2 (0) (0)) s_ m_ ar_ bl_ me_ co_ H (0) (0) (pb_E w bl_ ar_ s_ (0) (0) (pb_qx (.int (iZ (lenE E (E.length / 2)))) H)) (F0 m_ 4 ls []) := by
    intro n_
    induction n_ using Nat.strongRecOn with
    | _ n_ ih4 =>
    intro k t hm_ hk ht ls hl
    refine pb_iload_n C dX4_length_4 rfl (lv_at hl 2 rfl) ?_
    refine pb_aload_n C dX4_length_5 rfl (lv_at hl 0 rfl) ?_
    refine pb_go_x (bc' := 0) (bs' := 0) (pb_runV (rest := [.int (iZ (((k : Nat) : Int)))]) C hG (met_X4_size l a P E hS) hO (ci := 3) rfl (lw_V q880 q428 q429 q70 q430) ⟨rfl, hdX4_size⟩ rfl hl.1 rfl (Nat.le_of_ble_eq_true rfl) ⟨(Nat.le_of_ble_eq_true rfl), (Nat.le_of_ble_eq_true rfl)⟩ dX4_length_6) (by omega) (by omega) ?_
    refine pb_icmp_ge C dX4_length_9 (x := ((k : Nat) : Int)) (y := (((E.length / 2) : Nat) : Int)) (tgt := 26) (by decide) (by omega) (by omega) (fun c9_ => ?_) (fun c9_ => ?_)
    · refine pb_iload_n C dX4_length_26 rfl (lv_at hl 1 rfl) ?_
      exact pb_iret C dX4_length_27 (⟨by rw [ht, show k = E.length / 2 from by omega], rfl⟩)
    · refine pb_iload_n C dX4_length_12 rfl (lv_at hl 1 rfl) ?_
      refine pb_aload_n C dX4_length_13 rfl (lv_at hl 0 rfl) ?_
      refine pb_iload_n C dX4_length_14 rfl (lv_at hl 2 rfl) ?_
      refine pb_go_x (bc' := 0) (bs' := 0) (pb_runV (rest := [.int (iZ (t))]) C hG (met_X4_width l a P E hS k (by omega)) hO (ci := 3) rfl (lw_V q1160 q1161 q1162 q70 q1163) ⟨rfl, hdX4_width⟩ rfl hl.1 rfl (Nat.le_of_ble_eq_true rfl) ⟨(Nat.le_of_ble_eq_true rfl), (Nat.le_of_ble_eq_true rfl)⟩ dX4_length_15) (by omega) (by omega) ?_
      refine pb_iadd C dX4_length_18 ?_
      refine pb_istore_n C dX4_length_19 rfl hl (by decide) rfl fun ls hl => ?_
      have hl : lv_has ls 3 [(1, .int (iZ ((t + (eE E (2 * k + 1) - eE E (2 * k)))))), (0, .ref (a)), (2, .int (iZ (((k : Nat) : Int))))] := hl
      refine pb_iinc C dX4_length_20 hl (j := 2) (x := (((k : Nat) : Int))) rfl (by decide) rfl fun ls hl => ?_
      have hl : lv_has ls 3 [(2, .int (iZ ((((k + 1) : Nat) : Int)))), (1, .int (iZ ((t + (eE E (2 * k + 1) - eE E (2 * k)))))), (0, .ref (a))] := hl
      refine pb_goto C dX4_length_23 (tgt := 4) (by decide) ?_
      exact pb_V.mono (by omega) (by omega) (ih4 _ (by omega) (k + 1) (t + (eE E (2 * k + 1) - eE E (2 * k))) rfl (by omega) (by rw [lenE, ← ht]) ls (lv_sub hl [2, 1, 0] rfl))
  refine pb_ic C dX4_length_0 ?_
  refine pb_istore_n C dX4_length_1 rfl hl (by decide) rfl fun ls hl => ?_
  have hl : lv_has ls 3 [(1, .int (iZ (0))), (0, .ref (a))] := hl
  refine pb_ic C dX4_length_2 ?_
  refine pb_istore_n C dX4_length_3 rfl hl (by decide) rfl fun ls hl => ?_
  have hl : lv_has ls 3 [(2, .int (iZ (0))), (1, .int (iZ (0))), (0, .ref (a))] := hl
  exact pb_V.mono (by omega) (by omega) (L4 _ 0 0 rfl (by omega) rfl ls (lv_sub hl [2, 1, 0] rfl))

set_option maxHeartbeats 1000000 in
theorem met_X1_isBetween {w : pb_W} (l : Launch) {H : Heap} (x p q : Int) (hx : -2147483648 ≤ x ∧ x ≤ 2147483647) (hp : -2147483648 ≤ p ∧ p ≤ 2147483647) (hq : -2147483648 ≤ q ∧ q ≤ 2147483647) : pb_M w l yX1_isBetween cX1_isBetween 3 (some .boolean) 0 (0) (0) [.int (iZ (x)), .int (iZ (p)), .int (iZ (q))] H (pb_qx (.int (iZ (bI (decide (p ≤ x ∧ x ≤ q))))) H) := by
  refine pb_of (by decide +kernel) (Nat.le_of_ble_eq_true rfl) ?_
  intro p_ e_ s_ m_ ar_ bl_ me_ co_ ls C hh hG hl
  have hl : lv_has ls 3 [(0, .int (iZ (x))), (1, .int (iZ (p))), (2, .int (iZ (q)))] := hl
  refine pb_iload_n C dX1_isBetween_0 rfl (lv_at hl 0 rfl) ?_
  refine pb_iload_n C dX1_isBetween_1 rfl (lv_at hl 1 rfl) ?_
  refine pb_icmp_lt C dX1_isBetween_2 (x := x) (y := p) (tgt := 14) (by decide) (by omega) (by omega) (fun c2_ => ?_) (fun c2_ => ?_)
  · refine pb_ic C dX1_isBetween_14 ?_
    exact pb_zret C dX1_isBetween_15 (by decide +kernel) (⟨by rw [bI_f (decide_eq_false (by omega))], rfl⟩)
  · refine pb_iload_n C dX1_isBetween_5 rfl (lv_at hl 0 rfl) ?_
    refine pb_iload_n C dX1_isBetween_6 rfl (lv_at hl 2 rfl) ?_
    refine pb_icmp_gt C dX1_isBetween_7 (x := x) (y := q) (tgt := 14) (by decide) (by omega) (by omega) (fun c7_ => ?_) (fun c7_ => ?_)
    · refine pb_ic C dX1_isBetween_14 ?_
      exact pb_zret C dX1_isBetween_15 (by decide +kernel) (⟨by rw [bI_f (decide_eq_false (by omega))], rfl⟩)
    · refine pb_ic C dX1_isBetween_10 ?_
      refine pb_goto C dX1_isBetween_11 (tgt := 15) (by decide) ?_
      exact pb_zret C dX1_isBetween_15 (by decide +kernel) (⟨by rw [bI_t (decide_eq_true (by omega))], rfl⟩)

set_option maxHeartbeats 1000000 in
theorem met_X4_contains {w : pb_W} (l : Launch) {H : Heap} (a : Nat) (P : Nat → Prop) (E : List Int) (hS : Sp w H P a E) (x : Int) (hx : -2147483648 ≤ x ∧ x ≤ 2147483647) : pb_M w l yX4_contains cX4_contains 4 (some .boolean) 2 (0) (0) [.ref (a), .int (iZ (x))] H (pb_qx (.int (iZ (bI (inE E x (E.length / 2))))) H) := by
  refine pb_of (by decide +kernel) (Nat.le_of_ble_eq_true rfl) ?_
  intro p_ e_ s_ m_ ar_ bl_ me_ co_ ls C hh hG hl
  have hl : lv_has ls 4 [(0, .ref (a)), (1, .int (iZ (x)))] := hl
  have hS_ := hS
  obtain ⟨e, mE, f, hPa, hPe, hO, hA, hag, hle, hrg, hm⟩ := hS_
  have L4 : ∀ (n_ : Nat) (k : Nat) (t : Bool), E.length / 2 - k = n_ → (k ≤ E.length / 2) → (t = inE E x k) → ∀ (ls : Array Slot), lv_has ls 4 [(0, .ref (a)), (1, .int (iZ (x))), (2, .int (iZ ((bI (t))))), (3, .int (iZ (((k : Nat) : Int))))] → pb_V w.2.2.2 p_ l e_ (pb_rm 2 (0) (0)) s_ m_ ar_ bl_ me_ co_ H (0) (0) (pb_E w bl_ ar_ s_ (0) (0) (pb_qx (.int (iZ (bI (inE E x (E.length / 2))))) H)) (F0 m_ 4 ls []) := by
    intro n_
    induction n_ using Nat.strongRecOn with
    | _ n_ ih4 =>
    intro k t hm_ hk ht ls hl
    refine pb_iload_n C dX4_contains_4 rfl (lv_at hl 3 rfl) ?_
    refine pb_aload_n C dX4_contains_5 rfl (lv_at hl 0 rfl) ?_
    refine pb_go_x (bc' := 0) (bs' := 0) (pb_runV (rest := [.int (iZ (((k : Nat) : Int)))]) C hG (met_X4_size l a P E hS) hO (ci := 3) rfl (lw_V q880 q428 q429 q70 q430) ⟨rfl, hdX4_size⟩ rfl hl.1 rfl (Nat.le_of_ble_eq_true rfl) ⟨(Nat.le_of_ble_eq_true rfl), (Nat.le_of_ble_eq_true rfl)⟩ dX4_contains_6) (by omega) (by omega) ?_
    refine pb_icmp_ge C dX4_contains_9 (x := ((k : Nat) : Int)) (y := (((E.length / 2) : Nat) : Int)) (tgt := 37) (by decide) (by omega) (by omega) (fun c9_ => ?_) (fun c9_ => ?_)
    · refine pb_iload_n C dX4_contains_37 rfl (lv_at hl 2 rfl) ?_
      exact pb_zret C dX4_contains_38 (pb_nar (t)) (⟨by rw [ht, show k = E.length / 2 from by omega], rfl⟩)
    · refine pb_iload_n C dX4_contains_12 rfl (lv_at hl 2 rfl) ?_
      refine pb_iload_n C dX4_contains_13 rfl (lv_at hl 1 rfl) ?_
      refine pb_aload_n C dX4_contains_14 rfl (lv_at hl 0 rfl) ?_
      refine pb_iload_n C dX4_contains_15 rfl (lv_at hl 3 rfl) ?_
      refine pb_go_x (bc' := 0) (bs' := 0) (pb_runV (rest := [.int (iZ (x)), .int (iZ ((bI (t))))]) C hG (met_X4_left l a P E hS k (by omega)) hO (ci := 3) rfl (lw_V q881 q588 q589 q70 q590) ⟨rfl, hdX4_left⟩ rfl hl.1 rfl (Nat.le_of_ble_eq_true rfl) ⟨(Nat.le_of_ble_eq_true rfl), (Nat.le_of_ble_eq_true rfl)⟩ dX4_contains_16) (by omega) (by omega) ?_
      refine pb_aload_n C dX4_contains_19 rfl (lv_at hl 0 rfl) ?_
      refine pb_iload_n C dX4_contains_20 rfl (lv_at hl 3 rfl) ?_
      refine pb_go_x (bc' := 0) (bs' := 0) (pb_runV (rest := [.int (iZ ((eE E (2 * k)))), .int (iZ (x)), .int (iZ ((bI (t))))]) C hG (met_X4_right l a P E hS k (by omega)) hO (ci := 3) rfl (lw_V q882 q592 q593 q70 q594) ⟨rfl, hdX4_right⟩ rfl hl.1 rfl (Nat.le_of_ble_eq_true rfl) ⟨(Nat.le_of_ble_eq_true rfl), (Nat.le_of_ble_eq_true rfl)⟩ dX4_contains_21) (by omega) (by omega) ?_
      refine pb_ic C dX4_contains_24 ?_
      refine pb_isub C dX4_contains_25 ?_
      have hr1 := eE_rg hrg (i := 2 * k)
      have hr2 := eE_rg hrg (i := 2 * k + 1)
      refine pb_go_x (bc' := 0) (bs' := 0) (pb_runSN (rest := [.int (iZ ((bI (t))))]) C hG (met_X1_isBetween l x ((eE E (2 * k))) ((eE E (2 * k + 1) - 1)) (by omega) (by omega) (by omega)) q948 q333 q51 q334 hdX1_isBetween rfl hl.1 rfl (Nat.le_of_ble_eq_true rfl) ⟨(Nat.le_of_ble_eq_true rfl), (Nat.le_of_ble_eq_true rfl)⟩ dX4_contains_26) (by omega) (by omega) ?_
      refine pb_iorB C dX4_contains_29 ?_
      refine pb_istore_n C dX4_contains_30 rfl hl (by decide) rfl fun ls hl => ?_
      have hl : lv_has ls 4 [(2, .int (iZ ((bI ((t || decide ((eE E (2 * k)) ≤ x ∧ x ≤ (eE E (2 * k + 1) - 1)))))))), (0, .ref (a)), (1, .int (iZ (x))), (3, .int (iZ (((k : Nat) : Int))))] := hl
      refine pb_iinc C dX4_contains_31 hl (j := 3) (x := (((k : Nat) : Int))) rfl (by decide) rfl fun ls hl => ?_
      have hl : lv_has ls 4 [(3, .int (iZ ((((k + 1) : Nat) : Int)))), (2, .int (iZ ((bI ((t || decide ((eE E (2 * k)) ≤ x ∧ x ≤ (eE E (2 * k + 1) - 1)))))))), (0, .ref (a)), (1, .int (iZ (x)))] := hl
      refine pb_goto C dX4_contains_34 (tgt := 4) (by decide) ?_
      exact pb_V.mono (by omega) (by omega) (ih4 _ (by omega) (k + 1) (t || decide ((eE E (2 * k)) ≤ x ∧ x ≤ (eE E (2 * k + 1) - 1))) rfl (by omega) (by rw [inE, ← ht]) ls (lv_sub hl [2, 3, 1, 0] rfl))
  refine pb_ic C dX4_contains_0 ?_
  refine pb_istore_n C dX4_contains_1 rfl hl (by decide) rfl fun ls hl => ?_
  have hl : lv_has ls 4 [(2, .int (iZ (0))), (0, .ref (a)), (1, .int (iZ (x)))] := hl
  refine pb_ic C dX4_contains_2 ?_
  refine pb_istore_n C dX4_contains_3 rfl hl (by decide) rfl fun ls hl => ?_
  have hl : lv_has ls 4 [(3, .int (iZ (0))), (2, .int (iZ (0))), (0, .ref (a)), (1, .int (iZ (x)))] := hl
  exact pb_V.mono (by omega) (by omega) (L4 _ 0 false rfl (by omega) rfl ls (lv_sub hl [2, 3, 1, 0] rfl))

set_option maxHeartbeats 1000000 in
theorem met_X4_isSame {w : pb_W} (l : Launch) {H : Heap} (a : Nat) (P : Nat → Prop) (E : List Int) (hS : Sp w H P a E) (b : Nat) (P2 : Nat → Prop) (F : List Int) (hS2 : Sp w H P2 b F) : pb_M w l yX4_isSame cX4_isSame 4 (some .boolean) 0 (0) (0) [.ref (a), .ref (b)] H (pb_qx (.int (iZ (bI (decide (E = F))))) H) := by
  refine pb_of (by decide +kernel) (Nat.le_of_ble_eq_true rfl) ?_
  intro p_ e_ s_ m_ ar_ bl_ me_ co_ ls C hh hG hl
  have hl : lv_has ls 4 [(0, .ref (a)), (1, .ref (b))] := hl
  have hS_ := hS
  obtain ⟨e, mE, f, hPa, hPe, hO, hA, hag, hle, hrg, hm⟩ := hS_
  have hS2_ := hS2
  obtain ⟨e2, mE2, f2, hPa2, hPe2, hO2, hA2, hag2, hle2, hrg2, hm2⟩ := hS2_
  have L19 : ∀ (n_ : Nat) (k : Nat) (t : Bool), E.length - k = n_ → (k ≤ E.length) → (t = smE E F k) → ∀ (ls : Array Slot), lv_has ls 4 [(0, .ref (a)), (1, .ref (b)), (2, .int (iZ ((bI (t))))), (3, .int (iZ (((k : Nat) : Int))))] → pb_V w.2.2.2 p_ l e_ (pb_rm 0 (0) (0)) s_ m_ ar_ bl_ me_ co_ H (0) (0) (pb_E w bl_ ar_ s_ (0) (0) (pb_qx (.int (iZ (bI (decide (E = F))))) H)) (F0 m_ 19 ls []) := by
    intro n_
    induction n_ using Nat.strongRecOn with
    | _ n_ ih19 =>
    intro k t hm_ hk ht ls hl
    refine pb_iload_n C dX4_isSame_19 rfl (lv_at hl 2 rfl) ?_
    refine pb_ifB_eq C dX4_isSame_20 (tgt := 58) (by decide) (fun c20_ => ?_) (fun c20_ => ?_)
    · refine pb_iload_n C dX4_isSame_58 rfl (lv_at hl 2 rfl) ?_
      exact pb_zret C dX4_isSame_59 (pb_nar (t)) (⟨congrArg (fun b : Bool => some (Value.int (iZ (bI b)))) (show t = decide (E = F) from by rw [c20_, ← smE_eq, show E.length = k + (E.length - k) from by omega]; exact (smE_f (ht.symm.trans c20_) _).symm), rfl⟩)
    · refine pb_iload_n C dX4_isSame_23 rfl (lv_at hl 3 rfl) ?_
      refine pb_aload_n C dX4_isSame_24 rfl (lv_at hl 0 rfl) ?_
      refine pb_get C in_X4 hO (ci := 3) rfl 1 (by decide) q411 (fun _ h9 => h9) (v := .int (iZ (((E.length : Nat) : Int)))) rfl dX4_isSame_25 ?_
      refine pb_icmp_ge C dX4_isSame_28 (x := ((k : Nat) : Int)) (y := ((E.length : Nat) : Int)) (tgt := 58) (by decide) (by omega) (by omega) (fun c28_ => ?_) (fun c28_ => ?_)
      · refine pb_iload_n C dX4_isSame_58 rfl (lv_at hl 2 rfl) ?_
        exact pb_zret C dX4_isSame_59 (pb_nar (t)) (⟨congrArg (fun b : Bool => some (Value.int (iZ (bI b)))) (show t = decide (E = F) from by rw [ht, ← smE_eq, show k = E.length from by omega]), rfl⟩)
      · have hlf := smE_len (E := E) (F := F) (k := k) (by rw [← ht]; exact c20_)
        have hr1 := eE_rg hrg (i := k)
        have hr2 := eE_rg hrg2 (i := k)
        refine pb_aload_n C dX4_isSame_31 rfl (lv_at hl 0 rfl) ?_
        refine pb_get C in_X4 hO (ci := 3) rfl 0 (by decide) q410 (fun _ h9 => h9) (v := .ref (e)) rfl dX4_isSame_32 ?_
        refine pb_iload_n C dX4_isSame_35 rfl (lv_at hl 3 rfl) ?_
        refine pb_iald C hA (i := ((k : Nat) : Int)) (v := .int (iZ ((eE E k)))) (by omega) (congrArg (fun z : Int => Value.int (iZ z)) (show f k = eE E k from eE_at hag (by omega))) dX4_isSame_36 ?_
        refine pb_aload_n C dX4_isSame_37 rfl (lv_at hl 1 rfl) ?_
        refine pb_get C in_X4 hO2 (ci := 3) rfl 0 (by decide) q410 (fun _ h9 => h9) (v := .ref (e2)) rfl dX4_isSame_38 ?_
        refine pb_iload_n C dX4_isSame_41 rfl (lv_at hl 3 rfl) ?_
        refine pb_iald C hA2 (i := ((k : Nat) : Int)) (v := .int (iZ ((eE F k)))) (by omega) (congrArg (fun z : Int => Value.int (iZ z)) (show f2 k = eE F k from eE_at hag2 (by omega))) dX4_isSame_42 ?_
        refine pb_icmp_ne C dX4_isSame_43 (x := (eE E k)) (y := (eE F k)) (tgt := 50) (by decide) (by omega) (by omega) (fun c43_ => ?_) (fun c43_ => ?_)
        · refine pb_ic C dX4_isSame_50 ?_
          refine pb_istore_n C dX4_isSame_51 rfl hl (by decide) rfl fun ls hl => ?_
          have hl : lv_has ls 4 [(2, .int (iZ (0))), (0, .ref (a)), (1, .ref (b)), (3, .int (iZ (((k : Nat) : Int))))] := hl
          refine pb_iinc C dX4_isSame_52 hl (j := 3) (x := (((k : Nat) : Int))) rfl (by decide) rfl fun ls hl => ?_
          have hl : lv_has ls 4 [(3, .int (iZ ((((k + 1) : Nat) : Int)))), (2, .int (iZ (0))), (0, .ref (a)), (1, .ref (b))] := hl
          refine pb_goto C dX4_isSame_55 (tgt := 19) (by decide) ?_
          exact pb_V.mono (by omega) (by omega) (ih19 _ (by omega) (k + 1) false rfl (by omega) (by rw [smE, ← ht, c20_, Bool.true_and]; first | exact (decide_eq_true (by omega)).symm | exact (decide_eq_false (by omega)).symm) ls (lv_sub hl [2, 3, 1, 0] rfl))
        · refine pb_ic C dX4_isSame_46 ?_
          refine pb_goto C dX4_isSame_47 (tgt := 51) (by decide) ?_
          refine pb_istore_n C dX4_isSame_51 rfl hl (by decide) rfl fun ls hl => ?_
          have hl : lv_has ls 4 [(2, .int (iZ (1))), (0, .ref (a)), (1, .ref (b)), (3, .int (iZ (((k : Nat) : Int))))] := hl
          refine pb_iinc C dX4_isSame_52 hl (j := 3) (x := (((k : Nat) : Int))) rfl (by decide) rfl fun ls hl => ?_
          have hl : lv_has ls 4 [(3, .int (iZ ((((k + 1) : Nat) : Int)))), (2, .int (iZ (1))), (0, .ref (a)), (1, .ref (b))] := hl
          refine pb_goto C dX4_isSame_55 (tgt := 19) (by decide) ?_
          exact pb_V.mono (by omega) (by omega) (ih19 _ (by omega) (k + 1) true rfl (by omega) (by rw [smE, ← ht, c20_, Bool.true_and]; first | exact (decide_eq_true (by omega)).symm | exact (decide_eq_false (by omega)).symm) ls (lv_sub hl [2, 3, 1, 0] rfl))
  refine pb_aload_n C dX4_isSame_0 rfl (lv_at hl 0 rfl) ?_
  refine pb_get C in_X4 hO (ci := 3) rfl 1 (by decide) q411 (fun _ h9 => h9) (v := .int (iZ (((E.length : Nat) : Int)))) rfl dX4_isSame_1 ?_
  refine pb_aload_n C dX4_isSame_4 rfl (lv_at hl 1 rfl) ?_
  refine pb_get C in_X4 hO2 (ci := 3) rfl 1 (by decide) q411 (fun _ h9 => h9) (v := .int (iZ (((F.length : Nat) : Int)))) rfl dX4_isSame_5 ?_
  refine pb_icmp_ne C dX4_isSame_8 (x := ((E.length : Nat) : Int)) (y := ((F.length : Nat) : Int)) (tgt := 15) (by decide) (by omega) (by omega) (fun c8_ => ?_) (fun c8_ => ?_)
  · refine pb_ic C dX4_isSame_15 ?_
    refine pb_istore_n C dX4_isSame_16 rfl hl (by decide) rfl fun ls hl => ?_
    have hl : lv_has ls 4 [(2, .int (iZ (0))), (0, .ref (a)), (1, .ref (b))] := hl
    refine pb_ic C dX4_isSame_17 ?_
    refine pb_istore_n C dX4_isSame_18 rfl hl (by decide) rfl fun ls hl => ?_
    have hl : lv_has ls 4 [(3, .int (iZ (0))), (2, .int (iZ (0))), (0, .ref (a)), (1, .ref (b))] := hl
    exact pb_V.mono (by omega) (by omega) (L19 _ 0 false rfl (by omega) (by rw [smE]; first | exact (decide_eq_true (by omega)).symm | exact (decide_eq_false (by omega)).symm) ls (lv_sub hl [2, 3, 1, 0] rfl))
  · refine pb_ic C dX4_isSame_11 ?_
    refine pb_goto C dX4_isSame_12 (tgt := 16) (by decide) ?_
    refine pb_istore_n C dX4_isSame_16 rfl hl (by decide) rfl fun ls hl => ?_
    have hl : lv_has ls 4 [(2, .int (iZ (1))), (0, .ref (a)), (1, .ref (b))] := hl
    refine pb_ic C dX4_isSame_17 ?_
    refine pb_istore_n C dX4_isSame_18 rfl hl (by decide) rfl fun ls hl => ?_
    have hl : lv_has ls 4 [(3, .int (iZ (0))), (2, .int (iZ (1))), (0, .ref (a)), (1, .ref (b))] := hl
    exact pb_V.mono (by omega) (by omega) (L19 _ 0 true rfl (by omega) (by rw [smE]; first | exact (decide_eq_true (by omega)).symm | exact (decide_eq_false (by omega)).symm) ls (lv_sub hl [2, 3, 1, 0] rfl))

