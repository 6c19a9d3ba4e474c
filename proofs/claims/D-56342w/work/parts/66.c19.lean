set_option maxRecDepth 100000
set_option maxHeartbeats 1000000 in
theorem met_J19_bitCount {w : pb_W} (l : Launch) {H : Heap} (n : Nat) (hn : n < 33554432) : pb_M w l yJ19_bitCount cJ19_bitCount 1 (some .int) 0 (0) (0) [.int (iZ (((n : Nat) : Int)))] H (pb_qx (.int (iZ ((bcN n : Nat) : Int))) H) := by
  refine pb_of (by decide +kernel) (Nat.le_of_ble_eq_true rfl) ?_
  intro p_ e_ s_ m_ ar_ bl_ me_ co_ ls C hh hG hl
  have hl : lv_has ls 1 [(0, .int (iZ (((n : Nat) : Int))))] := hl
  have hb1 := bc1_le n
  have hb2 := bc2_le (bc1 n)
  have hb3 := bc3_le (bc2 (bc1 n))
  have hb4 := bc4_le (bc3 (bc2 (bc1 n)))
  refine pb_iload_n C dJ19_bitCount_0 rfl (lv_at hl 0 rfl) ?_
  refine pb_iload_n C dJ19_bitCount_1 rfl (lv_at hl 0 rfl) ?_
  refine pb_ic C dJ19_bitCount_2 ?_
  refine pb_iushr C (x := n) (y := 1) dJ19_bitCount_3 (by omega) (by omega) ?_
  refine pb_ldcw C dJ19_bitCount_4 q1133 (1431655765) (by decide +kernel) ?_
  refine pb_iand C dJ19_bitCount_7 (x := (n >>> 1)) (y := 1431655765) ?_
  refine pb_isub C dJ19_bitCount_8 ?_
  refine pb_eq (g2 := F0 m_ 9 ls [.int (iZ ((((bc1 n) : Nat) : Int)))]) (congrArg (fun z9 => F0 m_ 9 ls [.int (iZ z9)]) (show (((n : Nat) : Int) - ((((n >>> 1) &&& 1431655765) : Nat) : Int)) = (((bc1 n) : Nat) : Int) from (by have h1 := Nat.and_le_left (n := n >>> 1) (m := 1431655765); have h2 := Nat.shiftRight_le n 1; unfold bc1; omega))) ?_
  refine pb_istore_n C dJ19_bitCount_9 rfl hl (by decide) rfl fun ls hl => ?_
  have hl : lv_has ls 1 [(0, .int (iZ ((((bc1 n) : Nat) : Int))))] := hl
  refine pb_iload_n C dJ19_bitCount_10 rfl (lv_at hl 0 rfl) ?_
  refine pb_ldcw C dJ19_bitCount_11 q1134 (858993459) (by decide +kernel) ?_
  refine pb_iand C dJ19_bitCount_14 (x := (bc1 n)) (y := 858993459) ?_
  refine pb_iload_n C dJ19_bitCount_15 rfl (lv_at hl 0 rfl) ?_
  refine pb_ic C dJ19_bitCount_16 ?_
  refine pb_iushr C (x := (bc1 n)) (y := 2) dJ19_bitCount_17 (by omega) (by omega) ?_
  refine pb_ldcw C dJ19_bitCount_18 q1134 (858993459) (by decide +kernel) ?_
  refine pb_iand C dJ19_bitCount_21 (x := ((bc1 n) >>> 2)) (y := 858993459) ?_
  refine pb_iadd C dJ19_bitCount_22 ?_
  refine pb_eq (g2 := F0 m_ 23 ls [.int (iZ ((((bc2 (bc1 n)) : Nat) : Int)))]) (congrArg (fun z9 => F0 m_ 23 ls [.int (iZ z9)]) (show (((((bc1 n) &&& 858993459) + (((bc1 n) >>> 2) &&& 858993459)) : Nat) : Int) = (((bc2 (bc1 n)) : Nat) : Int) from rfl)) ?_
  refine pb_istore_n C dJ19_bitCount_23 rfl hl (by decide) rfl fun ls hl => ?_
  have hl : lv_has ls 1 [(0, .int (iZ ((((bc2 (bc1 n)) : Nat) : Int))))] := hl
  refine pb_iload_n C dJ19_bitCount_24 rfl (lv_at hl 0 rfl) ?_
  refine pb_iload_n C dJ19_bitCount_25 rfl (lv_at hl 0 rfl) ?_
  refine pb_ic C dJ19_bitCount_26 ?_
  refine pb_iushr C (x := (bc2 (bc1 n))) (y := 4) dJ19_bitCount_27 (by omega) (by omega) ?_
  refine pb_iadd C dJ19_bitCount_28 ?_
  refine pb_ldcw C dJ19_bitCount_29 q1135 (252645135) (by decide +kernel) ?_
  refine pb_iand C dJ19_bitCount_32 (x := ((bc2 (bc1 n)) + ((bc2 (bc1 n)) >>> 4))) (y := 252645135) ?_
  refine pb_eq (g2 := F0 m_ 33 ls [.int (iZ ((((bc3 (bc2 (bc1 n))) : Nat) : Int)))]) (congrArg (fun z9 => F0 m_ 33 ls [.int (iZ z9)]) (show (((((bc2 (bc1 n)) + ((bc2 (bc1 n)) >>> 4)) &&& 252645135) : Nat) : Int) = (((bc3 (bc2 (bc1 n))) : Nat) : Int) from rfl)) ?_
  refine pb_istore_n C dJ19_bitCount_33 rfl hl (by decide) rfl fun ls hl => ?_
  have hl : lv_has ls 1 [(0, .int (iZ ((((bc3 (bc2 (bc1 n))) : Nat) : Int))))] := hl
  refine pb_iload_n C dJ19_bitCount_34 rfl (lv_at hl 0 rfl) ?_
  refine pb_iload_n C dJ19_bitCount_35 rfl (lv_at hl 0 rfl) ?_
  refine pb_bip C dJ19_bitCount_36 (by decide) ?_
  refine pb_iushr C (x := (bc3 (bc2 (bc1 n)))) (y := 8) dJ19_bitCount_38 (by omega) (by omega) ?_
  refine pb_iadd C dJ19_bitCount_39 ?_
  refine pb_eq (g2 := F0 m_ 40 ls [.int (iZ ((((bc4 (bc3 (bc2 (bc1 n)))) : Nat) : Int)))]) (congrArg (fun z9 => F0 m_ 40 ls [.int (iZ z9)]) (show ((((bc3 (bc2 (bc1 n))) + ((bc3 (bc2 (bc1 n))) >>> 8)) : Nat) : Int) = (((bc4 (bc3 (bc2 (bc1 n)))) : Nat) : Int) from rfl)) ?_
  refine pb_istore_n C dJ19_bitCount_40 rfl hl (by decide) rfl fun ls hl => ?_
  have hl : lv_has ls 1 [(0, .int (iZ ((((bc4 (bc3 (bc2 (bc1 n)))) : Nat) : Int))))] := hl
  refine pb_iload_n C dJ19_bitCount_41 rfl (lv_at hl 0 rfl) ?_
  refine pb_iload_n C dJ19_bitCount_42 rfl (lv_at hl 0 rfl) ?_
  refine pb_bip C dJ19_bitCount_43 (by decide) ?_
  refine pb_iushr C (x := (bc4 (bc3 (bc2 (bc1 n))))) (y := 16) dJ19_bitCount_45 (by omega) (by omega) ?_
  refine pb_iadd C dJ19_bitCount_46 ?_
  refine pb_eq (g2 := F0 m_ 47 ls [.int (iZ ((((bc5 (bc4 (bc3 (bc2 (bc1 n))))) : Nat) : Int)))]) (congrArg (fun z9 => F0 m_ 47 ls [.int (iZ z9)]) (show ((((bc4 (bc3 (bc2 (bc1 n)))) + ((bc4 (bc3 (bc2 (bc1 n)))) >>> 16)) : Nat) : Int) = (((bc5 (bc4 (bc3 (bc2 (bc1 n))))) : Nat) : Int) from rfl)) ?_
  refine pb_istore_n C dJ19_bitCount_47 rfl hl (by decide) rfl fun ls hl => ?_
  have hl : lv_has ls 1 [(0, .int (iZ ((((bc5 (bc4 (bc3 (bc2 (bc1 n))))) : Nat) : Int))))] := hl
  refine pb_iload_n C dJ19_bitCount_48 rfl (lv_at hl 0 rfl) ?_
  refine pb_bip C dJ19_bitCount_49 (by decide) ?_
  refine pb_iand C dJ19_bitCount_51 (x := (bc5 (bc4 (bc3 (bc2 (bc1 n)))))) (y := 63) ?_
  exact pb_iret C dJ19_bitCount_52 (⟨rfl, rfl⟩)

set_option maxHeartbeats 1000000 in
theorem met_J19_numberOfTrailingZeros {w : pb_W} (l : Launch) {H : Heap} (n : Nat) (hn : 0 < n ∧ n < 33554432) : pb_M w l yJ19_numberOfTrailingZeros cJ19_numberOfTrailingZeros 2 (some .int) 0 (0) (0) [.int (iZ (((n : Nat) : Int)))] H (pb_qx (.int (iZ ((tzN n : Nat) : Int))) H) := by
  refine pb_of (by decide +kernel) (Nat.le_of_ble_eq_true rfl) ?_
  intro p_ e_ s_ m_ ar_ bl_ me_ co_ ls C hh hG hl
  have hl : lv_has ls 2 [(0, .int (iZ (((n : Nat) : Int))))] := hl
  have hdl := pb_dif_le (n - 1) n
  have L34 : ∀ (v c : Nat), ((pb_dif (n - 1) n) ≠ 0) → ((tzS 65536 16 ((pb_dif (n - 1) n), 1)) = (v, c)) → (v < 33554432) → (c ≤ 17) →  ∀ (ls : Array Slot), lv_has ls 2 [(0, .int (iZ (((v : Nat) : Int)))), (1, .int (iZ (((c : Nat) : Int))))] → pb_V w.2.2.2 p_ l e_ (pb_rm 0 (0) (0)) s_ m_ ar_ bl_ me_ co_ H (0) (0) (pb_E w bl_ ar_ s_ (0) (0) (pb_qx (.int (iZ ((tzN n : Nat) : Int))) H)) (F0 m_ 34 ls []) := by
    intro v c hx0 hq hv hc ls hl
    have L49 : ∀ (v c : Nat), ((pb_dif (n - 1) n) ≠ 0) → ((tzS 256 8 (tzS 65536 16 ((pb_dif (n - 1) n), 1))) = (v, c)) → (v < 33554432) → (c ≤ 25) →  ∀ (ls : Array Slot), lv_has ls 2 [(0, .int (iZ (((v : Nat) : Int)))), (1, .int (iZ (((c : Nat) : Int))))] → pb_V w.2.2.2 p_ l e_ (pb_rm 0 (0) (0)) s_ m_ ar_ bl_ me_ co_ H (0) (0) (pb_E w bl_ ar_ s_ (0) (0) (pb_qx (.int (iZ ((tzN n : Nat) : Int))) H)) (F0 m_ 49 ls []) := by
      intro v c hx0 hq hv hc ls hl
      have L62 : ∀ (v c : Nat), ((pb_dif (n - 1) n) ≠ 0) → ((tzS 16 4 (tzS 256 8 (tzS 65536 16 ((pb_dif (n - 1) n), 1)))) = (v, c)) → (v < 33554432) → (c ≤ 29) →  ∀ (ls : Array Slot), lv_has ls 2 [(0, .int (iZ (((v : Nat) : Int)))), (1, .int (iZ (((c : Nat) : Int))))] → pb_V w.2.2.2 p_ l e_ (pb_rm 0 (0) (0)) s_ m_ ar_ bl_ me_ co_ H (0) (0) (pb_E w bl_ ar_ s_ (0) (0) (pb_qx (.int (iZ ((tzN n : Nat) : Int))) H)) (F0 m_ 62 ls []) := by
        intro v c hx0 hq hv hc ls hl
        have L74 : ∀ (v c : Nat), ((pb_dif (n - 1) n) ≠ 0) → ((tzS 4 2 (tzS 16 4 (tzS 256 8 (tzS 65536 16 ((pb_dif (n - 1) n), 1))))) = (v, c)) → (v < 33554432) → (c ≤ 31) →  ∀ (ls : Array Slot), lv_has ls 2 [(0, .int (iZ (((v : Nat) : Int)))), (1, .int (iZ (((c : Nat) : Int))))] → pb_V w.2.2.2 p_ l e_ (pb_rm 0 (0) (0)) s_ m_ ar_ bl_ me_ co_ H (0) (0) (pb_E w bl_ ar_ s_ (0) (0) (pb_qx (.int (iZ ((tzN n : Nat) : Int))) H)) (F0 m_ 74 ls []) := by
          intro v c hx0 hq hv hc ls hl
          refine pb_iload_n C dJ19_numberOfTrailingZeros_74 rfl (lv_at hl 1 rfl) ?_
          refine pb_iload_n C dJ19_numberOfTrailingZeros_75 rfl (lv_at hl 0 rfl) ?_
          refine pb_ic C dJ19_numberOfTrailingZeros_76 ?_
          refine pb_iushr C (x := v) (y := 1) dJ19_numberOfTrailingZeros_77 (by omega) (by omega) ?_
          refine pb_iadd C dJ19_numberOfTrailingZeros_78 ?_
          exact pb_iret C dJ19_numberOfTrailingZeros_79 (⟨by rw [tzN, if_neg hx0, tzQ, hq]; exact rfl, rfl⟩)
        refine pb_iload_n C dJ19_numberOfTrailingZeros_62 rfl (lv_at hl 0 rfl) ?_
        refine pb_ic C dJ19_numberOfTrailingZeros_63 ?_
        refine pb_icmp_le C dJ19_numberOfTrailingZeros_64 (x := ((v : Nat) : Int)) (y := 4) (tgt := 74) (by decide) (by omega) (by omega) (fun c64_ => ?_) (fun c64_ => ?_)
        · exact pb_V.mono (by omega) (by omega) (L74 v c hx0 (by rw [hq]; exact tzS_n (by omega)) (by have := Nat.shiftRight_le v 2; omega) (by omega) ls (lv_sub hl [0, 1] rfl))
        · refine pb_iinc C dJ19_numberOfTrailingZeros_67 hl (j := 1) (x := (((c : Nat) : Int))) rfl (by decide) rfl fun ls hl => ?_
          have hl : lv_has ls 2 [(1, .int (iZ ((((c + 2) : Nat) : Int)))), (0, .int (iZ (((v : Nat) : Int))))] := hl
          refine pb_iload_n C dJ19_numberOfTrailingZeros_70 rfl (lv_at hl 1 rfl) ?_
          refine pb_ic C dJ19_numberOfTrailingZeros_71 ?_
          refine pb_iushr C (x := v) (y := 2) dJ19_numberOfTrailingZeros_72 (by omega) (by omega) ?_
          refine pb_istore_n C dJ19_numberOfTrailingZeros_73 rfl hl (by decide) rfl fun ls hl => ?_
          have hl : lv_has ls 2 [(0, .int (iZ ((((v >>> 2) : Nat) : Int)))), (1, .int (iZ ((((c + 2) : Nat) : Int))))] := hl
          exact pb_V.mono (by omega) (by omega) (L74 (v >>> 2) (c + 2) hx0 (by rw [hq]; exact tzS_y (by omega)) (by have := Nat.shiftRight_le v 2; omega) (by omega) ls (lv_sub hl [0, 1] rfl))
      refine pb_iload_n C dJ19_numberOfTrailingZeros_49 rfl (lv_at hl 0 rfl) ?_
      refine pb_bip C dJ19_numberOfTrailingZeros_50 (by decide) ?_
      refine pb_icmp_le C dJ19_numberOfTrailingZeros_52 (x := ((v : Nat) : Int)) (y := 16) (tgt := 62) (by decide) (by omega) (by omega) (fun c52_ => ?_) (fun c52_ => ?_)
      · exact pb_V.mono (by omega) (by omega) (L62 v c hx0 (by rw [hq]; exact tzS_n (by omega)) (by have := Nat.shiftRight_le v 4; omega) (by omega) ls (lv_sub hl [0, 1] rfl))
      · refine pb_iinc C dJ19_numberOfTrailingZeros_55 hl (j := 1) (x := (((c : Nat) : Int))) rfl (by decide) rfl fun ls hl => ?_
        have hl : lv_has ls 2 [(1, .int (iZ ((((c + 4) : Nat) : Int)))), (0, .int (iZ (((v : Nat) : Int))))] := hl
        refine pb_iload_n C dJ19_numberOfTrailingZeros_58 rfl (lv_at hl 1 rfl) ?_
        refine pb_ic C dJ19_numberOfTrailingZeros_59 ?_
        refine pb_iushr C (x := v) (y := 4) dJ19_numberOfTrailingZeros_60 (by omega) (by omega) ?_
        refine pb_istore_n C dJ19_numberOfTrailingZeros_61 rfl hl (by decide) rfl fun ls hl => ?_
        have hl : lv_has ls 2 [(0, .int (iZ ((((v >>> 4) : Nat) : Int)))), (1, .int (iZ ((((c + 4) : Nat) : Int))))] := hl
        exact pb_V.mono (by omega) (by omega) (L62 (v >>> 4) (c + 4) hx0 (by rw [hq]; exact tzS_y (by omega)) (by have := Nat.shiftRight_le v 4; omega) (by omega) ls (lv_sub hl [0, 1] rfl))
    refine pb_iload_n C dJ19_numberOfTrailingZeros_34 rfl (lv_at hl 0 rfl) ?_
    refine pb_sip C dJ19_numberOfTrailingZeros_35 (by decide) ?_
    refine pb_icmp_le C dJ19_numberOfTrailingZeros_38 (x := ((v : Nat) : Int)) (y := 256) (tgt := 49) (by decide) (by omega) (by omega) (fun c38_ => ?_) (fun c38_ => ?_)
    · exact pb_V.mono (by omega) (by omega) (L49 v c hx0 (by rw [hq]; exact tzS_n (by omega)) (by have := Nat.shiftRight_le v 8; omega) (by omega) ls (lv_sub hl [0, 1] rfl))
    · refine pb_iinc C dJ19_numberOfTrailingZeros_41 hl (j := 1) (x := (((c : Nat) : Int))) rfl (by decide) rfl fun ls hl => ?_
      have hl : lv_has ls 2 [(1, .int (iZ ((((c + 8) : Nat) : Int)))), (0, .int (iZ (((v : Nat) : Int))))] := hl
      refine pb_iload_n C dJ19_numberOfTrailingZeros_44 rfl (lv_at hl 1 rfl) ?_
      refine pb_bip C dJ19_numberOfTrailingZeros_45 (by decide) ?_
      refine pb_iushr C (x := v) (y := 8) dJ19_numberOfTrailingZeros_47 (by omega) (by omega) ?_
      refine pb_istore_n C dJ19_numberOfTrailingZeros_48 rfl hl (by decide) rfl fun ls hl => ?_
      have hl : lv_has ls 2 [(0, .int (iZ ((((v >>> 8) : Nat) : Int)))), (1, .int (iZ ((((c + 8) : Nat) : Int))))] := hl
      exact pb_V.mono (by omega) (by omega) (L49 (v >>> 8) (c + 8) hx0 (by rw [hq]; exact tzS_y (by omega)) (by have := Nat.shiftRight_le v 8; omega) (by omega) ls (lv_sub hl [0, 1] rfl))
  refine pb_iload_n C dJ19_numberOfTrailingZeros_0 rfl (lv_at hl 0 rfl) ?_
  refine pb_ic C dJ19_numberOfTrailingZeros_1 ?_
  refine pb_inot C dJ19_numberOfTrailingZeros_2 (x := ((n : Nat) : Int)) ?_
  refine pb_iload_n C dJ19_numberOfTrailingZeros_3 rfl (lv_at hl 0 rfl) ?_
  refine pb_ic C dJ19_numberOfTrailingZeros_4 ?_
  refine pb_isub C dJ19_numberOfTrailingZeros_5 ?_
  refine pb_eq (g2 := F0 m_ 6 ls [.int (iZ ((((n - 1) : Nat) : Int))), .int (iZ ((-1 - ((n : Nat) : Int))))]) (congrArg (fun z9 => F0 m_ 6 ls [.int (iZ z9), .int (iZ ((-1 - ((n : Nat) : Int))))]) (show (((n : Nat) : Int) - 1) = (((n - 1) : Nat) : Int) from (by omega))) ?_
  refine pb_iandn2 C dJ19_numberOfTrailingZeros_6 (x := (n - 1)) (y := n) ?_
  refine pb_istore_n C dJ19_numberOfTrailingZeros_7 rfl hl (by decide) rfl fun ls hl => ?_
  have hl : lv_has ls 2 [(0, .int (iZ ((((pb_dif ((n - 1)) n) : Nat) : Int))))] := hl
  refine pb_iload_n C dJ19_numberOfTrailingZeros_8 rfl (lv_at hl 0 rfl) ?_
  refine pb_if_gt C dJ19_numberOfTrailingZeros_9 (x := (((pb_dif ((n - 1)) n) : Nat) : Int)) (tgt := 17) (by decide) (by omega) (fun c9_ => ?_) (fun c9_ => ?_)
  · have hx0 : (pb_dif (n - 1) n) ≠ 0 := by omega
    refine pb_ic C dJ19_numberOfTrailingZeros_17 ?_
    refine pb_istore_n C dJ19_numberOfTrailingZeros_18 rfl hl (by decide) rfl fun ls hl => ?_
    have hl : lv_has ls 2 [(1, .int (iZ (1))), (0, .int (iZ ((((pb_dif ((n - 1)) n) : Nat) : Int))))] := hl
    refine pb_iload_n C dJ19_numberOfTrailingZeros_19 rfl (lv_at hl 1 rfl) ?_
    refine pb_ldcw C dJ19_numberOfTrailingZeros_20 q1000 (65536) (by decide +kernel) ?_
    refine pb_icmp_le C dJ19_numberOfTrailingZeros_23 (x := (((pb_dif ((n - 1)) n) : Nat) : Int)) (y := 65536) (tgt := 34) (by decide) (by omega) (by omega) (fun c23_ => ?_) (fun c23_ => ?_)
    · exact pb_V.mono (by omega) (by omega) (L34 (pb_dif ((n - 1)) n) 1 hx0 (by exact tzS_n (by omega)) (by have := Nat.shiftRight_le (pb_dif (n - 1) n) 16; omega) (by omega) ls (lv_sub hl [1, 0] rfl))
    · refine pb_iinc C dJ19_numberOfTrailingZeros_26 hl (j := 0) (x := 1) rfl (by decide) rfl fun ls hl => ?_
      have hl : lv_has ls 2 [(1, .int (iZ (17))), (0, .int (iZ ((((pb_dif ((n - 1)) n) : Nat) : Int))))] := hl
      refine pb_iload_n C dJ19_numberOfTrailingZeros_29 rfl (lv_at hl 1 rfl) ?_
      refine pb_bip C dJ19_numberOfTrailingZeros_30 (by decide) ?_
      refine pb_iushr C (x := (pb_dif ((n - 1)) n)) (y := 16) dJ19_numberOfTrailingZeros_32 (by omega) (by omega) ?_
      refine pb_istore_n C dJ19_numberOfTrailingZeros_33 rfl hl (by decide) rfl fun ls hl => ?_
      have hl : lv_has ls 2 [(0, .int (iZ (((((pb_dif ((n - 1)) n) >>> 16) : Nat) : Int)))), (1, .int (iZ (17)))] := hl
      exact pb_V.mono (by omega) (by omega) (L34 ((pb_dif ((n - 1)) n) >>> 16) 17 hx0 (by exact tzS_y (by omega)) (by have := Nat.shiftRight_le (pb_dif (n - 1) n) 16; omega) (by omega) ls (lv_sub hl [0, 1] rfl))
  · have hz : (pb_dif (n - 1) n) = 0 := by omega
    refine pb_iload_n C dJ19_numberOfTrailingZeros_12 rfl (lv_at hl 0 rfl) ?_
    refine pb_bip C dJ19_numberOfTrailingZeros_13 (by decide) ?_
    refine pb_iand C dJ19_numberOfTrailingZeros_15 (x := (pb_dif ((n - 1)) n)) (y := 32) ?_
    exact pb_iret C dJ19_numberOfTrailingZeros_16 (⟨by rw [tzN, if_pos hz, hz]; rfl, rfl⟩)

set_option maxHeartbeats 1000000 in
theorem met_J19_intValue {w : pb_W} (l : Launch) {H : Heap} (b : Nat) (x : Int) (hB : Bx w H b x) : pb_M w l yJ19_intValue cJ19_intValue 1 (some .int) 0 (0) (0) [.ref (b)] H (pb_qx (.int (iZ x)) H) := by
  refine pb_of (by decide +kernel) (Nat.le_of_ble_eq_true rfl) ?_
  intro p_ e_ s_ m_ ar_ bl_ me_ co_ ls C hh hG hl
  have hl : lv_has ls 1 [(0, .ref (b))] := hl
  have hB : pb_R w H b 17 [.int (iZ x)] := hB
  refine pb_aload_n C dJ19_intValue_0 rfl (lv_at hl 0 rfl) ?_
  refine pb_get C in_J19 hB (ci := 17) rfl 0 (by decide) q1284 (fun _ h9 => h9) (v := .int (iZ (x))) rfl dJ19_intValue_1 ?_
  exact pb_iret C dJ19_intValue_4 (⟨rfl, rfl⟩)

set_option maxHeartbeats 1000000 in
theorem met_J18_init {w : pb_W} (l : Launch) {H0 : Heap} (a : Nat) : pb_M w l yJ18_init cJ18_init 1 none 1 (0) (0) [.ref (a)] H0 (pb_qv (fun H1 => H1 = H0)) := by
  refine pb_of (by decide +kernel) (Nat.le_of_ble_eq_true rfl) ?_
  intro p_ e_ s_ m_ ar_ bl_ me_ co_ ls C hh hG hl
  have hl : lv_has ls 1 [(0, .ref (a))] := hl
  refine pb_aload_n C dJ18_init_0 rfl (lv_at hl 0 rfl) ?_
  refine pb_objInit C q1283 q99 q100 hl.1 ⟨(Nat.le_of_ble_eq_true rfl), (Nat.le_of_ble_eq_true rfl)⟩ dJ18_init_1 ?_
  exact pb_vret C dJ18_init_4 (⟨rfl, rfl⟩)

set_option maxHeartbeats 1000000 in
theorem met_J19_init {w : pb_W} (l : Launch) {H0 : Heap} (a : Nat) (x : Int) (hz : w.2.2.2 ≤ a) (hO : pb_O w H0 a 17 [.int (iZ 0)]) : pb_M w l yJ19_init cJ19_init 2 none 2 (0) (0) [.ref (a), .int (iZ (x))] H0 (pb_qv (fun H1 => pb_O w H1 a 17 [.int (iZ x)] ∧ pb_F (fun q => q ≠ a) H0 H1)) := by
  refine pb_of (by decide +kernel) (Nat.le_of_ble_eq_true rfl) ?_
  intro p_ e_ s_ m_ ar_ bl_ me_ co_ ls C hh hG hl
  have hl : lv_has ls 2 [(0, .ref (a)), (1, .int (iZ (x)))] := hl
  refine pb_aload_n C dJ19_init_0 rfl (lv_at hl 0 rfl) ?_
  refine pb_go_v (bc' := 0) (bs' := 0) (pb_runI (rest := []) C hG (met_J18_init l a) q1280 q1281 q83 q1282 rfl hdJ18_init rfl hl.1 rfl (Nat.le_of_ble_eq_true rfl) ⟨(Nat.le_of_ble_eq_true rfl), (Nat.le_of_ble_eq_true rfl)⟩ dJ19_init_1) (by omega) (by omega) (fun H_ hp_ => ?_)
  have hp8 := hp_.symm
  subst hp8
  refine pb_aload_n C dJ19_init_4 rfl (lv_at hl 0 rfl) ?_
  refine pb_iload_n C dJ19_init_5 rfl (lv_at hl 1 rfl) ?_
  refine pb_putF C in_J19 tyJ19 tyJ19_ok nmJ19 hO (ci := 17) rfl 0 (by decide) q1284 (fun _ h9 => h9) rfl rfl rfl (v := .int (iZ (x))) rfl rfl (Nat.le_of_ble_eq_true rfl) (by omega) dJ19_init_6 fun H1_ hu_ hO => ?_
  have hO : pb_O w H1_ (a) 17 [.int (iZ (x))] := hO
  have hG := hG.kept (hu_.z (by omega))
  have hs_H1_ := hu_.1
  exact pb_vret C dJ19_init_9 (⟨rfl, hO, hu_.f⟩)

set_option maxHeartbeats 1000000 in
theorem met_J19_valueOf {w : pb_W} (l : Launch) {H0 : Heap} (x : Int) (hx : -2147483648 ≤ x ∧ x ≤ 2147483647) : pb_M w l yJ19_valueOf cJ19_valueOf 1 (some (.object "java/lang/Integer")) 3 (1) (1) [.int (iZ (x))] H0 (pb_qr (fun b H1 => Bx w H1 b x ∧ (b < w.2.2.2 ∨ H0.size ≤ b) ∧ pb_F (fun q => q < H0.size) H0 H1)) := by
  refine pb_of (by decide +kernel) (Nat.le_of_ble_eq_true rfl) ?_
  intro p_ e_ s_ m_ ar_ bl_ me_ co_ ls C hh hG hl
  have hl : lv_has ls 1 [(0, .int (iZ (x)))] := hl
  have hzs := hG.1
  refine pb_iload_n C dJ19_valueOf_0 rfl (lv_at hl 0 rfl) ?_
  refine pb_bip C dJ19_valueOf_1 (by decide) ?_
  refine pb_icmp_lt C dJ19_valueOf_3 (x := x) (y := (-128)) (tgt := 23) (by decide) (by omega) (by omega) (fun c3_ => ?_) (fun c3_ => ?_)
  · refine pb_newE C in_J19 tyJ19 tyJ19_ok (ci := 17) rfl q1275 q1276 q84 (fs := [.int (iZ (0))]) (by decide) (bc' := 0) (bs' := 0) (by omega) (by omega) dJ19_valueOf_23 fun a1_ H1_ ha_ hn_ hN1_ => ?_
    have hs1_ : H1_.size = H0.size + 1 := hn_.1
    have hG := hG.kept (hn_.f.mono (fun _ _ _ => trivial))
    obtain rfl : a1_ = H0.size := by omega
    skip
    have hN := hN1_
    refine pb_dup C dJ19_valueOf_26 rfl ?_
    refine pb_iload_n C dJ19_valueOf_27 rfl (lv_at hl 0 rfl) ?_
    refine pb_go_v (bc' := 0) (bs' := 0) (pb_runI (rest := [.ref (H0.size)]) C hG (met_J19_init l H0.size x (by omega) hN) q1277 q1278 q84 q1279 rfl hdJ19_init rfl hl.1 rfl (Nat.le_of_ble_eq_true rfl) ⟨(Nat.le_of_ble_eq_true rfl), (Nat.le_of_ble_eq_true rfl)⟩ dJ19_valueOf_28) (by omega) (by omega) (fun H_ hp_ => ?_)
    obtain ⟨hO, hF1⟩ := hp_
    exact pb_aret C (Or.inl ⟨_, rfl⟩) dJ19_valueOf_31 (Or.inr ⟨_, rfl⟩) (⟨_, rfl, hO.r, Or.inr (Nat.le_refl _), ⟨by have := hF1.1; omega, fun q hq _ => (hF1.2 q (by omega) (show q ≠ _ from by omega)).trans (hn_.2 q hq)⟩⟩)
  · refine pb_iload_n C dJ19_valueOf_6 rfl (lv_at hl 0 rfl) ?_
    refine pb_gets C (n := "high") (v := .int 127) hG.2.2.2.2.2.2.2.2.2.2.2.2.2.2.1.1 q1271 (fun _ h9 => h9) dJ19_valueOf_7 ?_
    rw [show (127 : Int32) = iZ 127 from by decide +kernel]
    refine pb_icmp_gt C dJ19_valueOf_10 (x := x) (y := 127) (tgt := 23) (by decide) (by omega) (by omega) (fun c10_ => ?_) (fun c10_ => ?_)
    · refine pb_newE C in_J19 tyJ19 tyJ19_ok (ci := 17) rfl q1275 q1276 q84 (fs := [.int (iZ (0))]) (by decide) (bc' := 0) (bs' := 0) (by omega) (by omega) dJ19_valueOf_23 fun a2_ H2_ ha_ hn_ hN2_ => ?_
      have hs2_ : H2_.size = H0.size + 1 := hn_.1
      have hG := hG.kept (hn_.f.mono (fun _ _ _ => trivial))
      obtain rfl : a2_ = H0.size := by omega
      skip
      have hN := hN2_
      refine pb_dup C dJ19_valueOf_26 rfl ?_
      refine pb_iload_n C dJ19_valueOf_27 rfl (lv_at hl 0 rfl) ?_
      refine pb_go_v (bc' := 0) (bs' := 0) (pb_runI (rest := [.ref (H0.size)]) C hG (met_J19_init l H0.size x (by omega) hN) q1277 q1278 q84 q1279 rfl hdJ19_init rfl hl.1 rfl (Nat.le_of_ble_eq_true rfl) ⟨(Nat.le_of_ble_eq_true rfl), (Nat.le_of_ble_eq_true rfl)⟩ dJ19_valueOf_28) (by omega) (by omega) (fun H_ hp_ => ?_)
      obtain ⟨hO, hF1⟩ := hp_
      exact pb_aret C (Or.inl ⟨_, rfl⟩) dJ19_valueOf_31 (Or.inr ⟨_, rfl⟩) (⟨_, rfl, hO.r, Or.inr (Nat.le_refl _), ⟨by have := hF1.1; omega, fun q hq _ => (hF1.2 q (by omega) (show q ≠ _ from by omega)).trans (hn_.2 q hq)⟩⟩)
    · refine pb_gets C (n := "cache") (v := .ref (w.2.2.1 8)) hG.2.2.2.2.2.2.2.2.2.2.2.2.2.2.1.2.1 q1273 (fun _ h9 => h9) dJ19_valueOf_13 ?_
      refine pb_iload_n C dJ19_valueOf_16 rfl (lv_at hl 0 rfl) ?_
      refine pb_sip C dJ19_valueOf_17 (by decide) ?_
      refine pb_iadd C dJ19_valueOf_20 ?_
      obtain ⟨hi1, hi2, hi3, hi4⟩ := hG.2.2.2.2.2.2.2.2.2.2.2.2.2.2.1
      refine pb_tq C (i := (x + 128)) (v := .ref (w.2.2.1 (256 + (x + 128).toNat))) hi3 (by omega) (by rfl) dJ19_valueOf_21 ?_
      exact pb_aret C (Or.inl ⟨_, rfl⟩) dJ19_valueOf_22 (Or.inr ⟨_, rfl⟩) (⟨_, rfl, (by have h9 := (hi4 (x + 128).toNat (by omega)).2; rw [show (((x + 128).toNat : Nat) : Int) - 128 = x from by omega] at h9; exact h9), Or.inl (hi4 _ (by omega)).1, pb_F.rf⟩)

