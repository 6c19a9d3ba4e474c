set_option maxRecDepth 100000
set_option maxHeartbeats 1000000 in
theorem met_X6_values {w : pb_W} (l : Launch) {H0 : Heap}  : pb_M w l yX6_values cX6_values 0 (some (.array (.object "PolygonBoard$Operation"))) 1 (1) (4) [] H0 (pb_qr (fun a H1 => a = H0.size ∧ pb_A w H1 a 5 4 (fun j => .ref (w.2.2.1 (3 + j))) ∧ pb_F (fun _ => True) H0 H1)) := by
  refine pb_of (by decide +kernel) (Nat.le_of_ble_eq_true rfl) ?_
  intro p_ e_ s_ m_ ar_ bl_ me_ co_ ls C hh hG hl
  have hl : lv_has ls 0 [] := hl
  have hV7 := hG.2.2.2.2.2.2.2.2.2.2.2.2.2.1.2.2
  refine pb_gets C (n := "$VALUES") (v := .ref (w.2.2.1 7)) hG.2.2.2.2.2.2.2.2.2.2.2.2.2.1.1 q848 (fun _ h9 => h9) dX6_values_0 ?_
  refine pb_clone C (ad := "[LPolygonBoard$Operation;") (by decide) hV7 (pb_adO C) (fun _ _ => rfl) q850 q851 q854 q855 hl.1 ⟨(Nat.le_of_ble_eq_true rfl), (Nat.le_of_ble_eq_true rfl)⟩ (bc' := 0) (bs' := 0) (by omega) (by omega) dX6_values_3 fun a1_ H1_ ha_ hn_ hN1_ => ?_
  have hs1_ : H1_.size = H0.size + 1 := hn_.1
  have hG := hG.kept (hn_.f.mono (fun _ _ _ => trivial))
  have hV7 := hV7.kept (hn_.2 _ hV7.lt)
  have a1__e : a1_ = H0.size := ha_
  refine pb_castB C hN1_.b (pb_adO C) q857 dX6_values_6 ?_
  exact pb_aret C (Or.inr ⟨_, rfl⟩) dX6_values_9 (Or.inr ⟨_, rfl⟩) (⟨_, rfl, a1__e, hN1_, hn_.f⟩)

set_option maxHeartbeats 1000000 in
theorem met_X6_of_0 {w : pb_W} (l : Launch) {H0 : Heap}  : pb_M w l yX6_of cX6_of 5 (some (.object "PolygonBoard$Operation")) 2 (1) (4) [.int (iZ (117))] H0 (pb_qr (fun a H1 => a = w.2.2.1 (3 + 0) ∧ pb_F (fun q => q < H0.size) H0 H1)) := by
  refine pb_of (by decide +kernel) (Nat.le_of_ble_eq_true rfl) ?_
  intro p_ e_ s_ m_ ar_ bl_ me_ co_ ls C hh hG hl
  have hl : lv_has ls 5 [(0, .int (iZ (117)))] := hl
  refine pb_go_r (bc' := 0) (bs' := 0) (pb_runS (rest := []) C hG (met_X6_values l) (lw_S q845 q846 q73 q847) hdX6_values rfl hl.1 rfl (Nat.le_of_ble_eq_true rfl) ⟨(Nat.le_of_ble_eq_true rfl), (Nat.le_of_ble_eq_true rfl)⟩ dX6_of_0) (by omega) (by omega) (fun a9 H_ hp_ => ?_)
  obtain ⟨ha9, hA9, hF1⟩ := hp_
  have hG := hG.kept (hF1.mono (fun _ _ _ => trivial))
  refine pb_astore_n C dX6_of_3 rfl hl (by decide) rfl fun ls hl => ?_
  have hl : lv_has ls 5 [(1, .ref (a9)), (0, .int (iZ (117)))] := hl
  refine pb_aload_n C dX6_of_4 rfl (lv_at hl 0 rfl) ?_
  refine pb_alen C (t := 5) (by decide) hA9.b dX6_of_5 ?_
  refine pb_eq (g2 := F0 m_ 6 ls [.int (iZ (4))]) (congrArg (fun z9 => F0 m_ 6 ls [.int (iZ z9)]) (show ((4 : Nat) : Int) = 4 from rfl)) ?_
  refine pb_istore_n C dX6_of_6 rfl hl (by decide) rfl fun ls hl => ?_
  have hl : lv_has ls 5 [(2, .int (iZ (4))), (1, .ref (a9)), (0, .int (iZ (117)))] := hl
  refine pb_ic C dX6_of_7 ?_
  refine pb_istore_n C dX6_of_8 rfl hl (by decide) rfl fun ls hl => ?_
  have hl : lv_has ls 5 [(3, .int (iZ (0))), (2, .int (iZ (4))), (1, .ref (a9)), (0, .int (iZ (117)))] := hl
  refine pb_iload_n C dX6_of_9 rfl (lv_at hl 0 rfl) ?_
  refine pb_iload_n C dX6_of_10 rfl (lv_at hl 1 rfl) ?_
  refine pb_icmp_ge C dX6_of_11 (x := 0) (y := 4) (tgt := 37) (by decide) (by omega) (by omega) (fun c11_ => ?_) (fun c11_ => ?_)
  · exact absurd c11_ (by decide)
  · refine pb_aload_n C dX6_of_14 rfl (lv_at hl 2 rfl) ?_
    refine pb_iload_n C dX6_of_15 rfl (lv_at hl 0 rfl) ?_
    refine pb_aald C (t := 5) (by decide) hA9.b (i := 0) (v := .ref ((w.2.2.1 (3 + 0)))) (by omega) rfl dX6_of_16 ?_
    refine pb_astore C dX6_of_17 hl (by decide) rfl fun ls hl => ?_
    have hl : lv_has ls 5 [(4, .ref ((w.2.2.1 (3 + 0)))), (3, .int (iZ (0))), (2, .int (iZ (4))), (1, .ref (a9)), (0, .int (iZ (117)))] := hl
    refine pb_aload C dX6_of_19 (lv_at hl 0 rfl) ?_
    refine pb_getL C (hG.lt (k := 0) (by decide)) q2173 (fun _ h9 => h9) dX6_of_21 ?_
    refine pb_iload_n C dX6_of_24 rfl (lv_at hl 4 rfl) ?_
    refine pb_icmp_ne C dX6_of_25 (x := 117) (y := 117) (tgt := 31) (by decide) (by omega) (by omega) (fun c25_ => ?_) (fun c25_ => ?_)
    · exact absurd c25_ (by decide)
    · refine pb_aload C dX6_of_28 (lv_at hl 0 rfl) ?_
      exact pb_aret C (Or.inl ⟨_, rfl⟩) dX6_of_30 (Or.inr ⟨_, rfl⟩) (⟨_, rfl, rfl, hF1.mono (fun _ _ _ => trivial)⟩)

set_option maxHeartbeats 1000000 in
theorem met_X6_of_1 {w : pb_W} (l : Launch) {H0 : Heap}  : pb_M w l yX6_of cX6_of 5 (some (.object "PolygonBoard$Operation")) 2 (1) (4) [.int (iZ (105))] H0 (pb_qr (fun a H1 => a = w.2.2.1 (3 + 1) ∧ pb_F (fun q => q < H0.size) H0 H1)) := by
  refine pb_of (by decide +kernel) (Nat.le_of_ble_eq_true rfl) ?_
  intro p_ e_ s_ m_ ar_ bl_ me_ co_ ls C hh hG hl
  have hl : lv_has ls 5 [(0, .int (iZ (105)))] := hl
  refine pb_go_r (bc' := 0) (bs' := 0) (pb_runS (rest := []) C hG (met_X6_values l) (lw_S q845 q846 q73 q847) hdX6_values rfl hl.1 rfl (Nat.le_of_ble_eq_true rfl) ⟨(Nat.le_of_ble_eq_true rfl), (Nat.le_of_ble_eq_true rfl)⟩ dX6_of_0) (by omega) (by omega) (fun a9 H_ hp_ => ?_)
  obtain ⟨ha9, hA9, hF1⟩ := hp_
  have hG := hG.kept (hF1.mono (fun _ _ _ => trivial))
  refine pb_astore_n C dX6_of_3 rfl hl (by decide) rfl fun ls hl => ?_
  have hl : lv_has ls 5 [(1, .ref (a9)), (0, .int (iZ (105)))] := hl
  refine pb_aload_n C dX6_of_4 rfl (lv_at hl 0 rfl) ?_
  refine pb_alen C (t := 5) (by decide) hA9.b dX6_of_5 ?_
  refine pb_eq (g2 := F0 m_ 6 ls [.int (iZ (4))]) (congrArg (fun z9 => F0 m_ 6 ls [.int (iZ z9)]) (show ((4 : Nat) : Int) = 4 from rfl)) ?_
  refine pb_istore_n C dX6_of_6 rfl hl (by decide) rfl fun ls hl => ?_
  have hl : lv_has ls 5 [(2, .int (iZ (4))), (1, .ref (a9)), (0, .int (iZ (105)))] := hl
  refine pb_ic C dX6_of_7 ?_
  refine pb_istore_n C dX6_of_8 rfl hl (by decide) rfl fun ls hl => ?_
  have hl : lv_has ls 5 [(3, .int (iZ (0))), (2, .int (iZ (4))), (1, .ref (a9)), (0, .int (iZ (105)))] := hl
  refine pb_iload_n C dX6_of_9 rfl (lv_at hl 0 rfl) ?_
  refine pb_iload_n C dX6_of_10 rfl (lv_at hl 1 rfl) ?_
  refine pb_icmp_ge C dX6_of_11 (x := 0) (y := 4) (tgt := 37) (by decide) (by omega) (by omega) (fun c11_ => ?_) (fun c11_ => ?_)
  · exact absurd c11_ (by decide)
  · refine pb_aload_n C dX6_of_14 rfl (lv_at hl 2 rfl) ?_
    refine pb_iload_n C dX6_of_15 rfl (lv_at hl 0 rfl) ?_
    refine pb_aald C (t := 5) (by decide) hA9.b (i := 0) (v := .ref ((w.2.2.1 (3 + 0)))) (by omega) rfl dX6_of_16 ?_
    refine pb_astore C dX6_of_17 hl (by decide) rfl fun ls hl => ?_
    have hl : lv_has ls 5 [(4, .ref ((w.2.2.1 (3 + 0)))), (3, .int (iZ (0))), (2, .int (iZ (4))), (1, .ref (a9)), (0, .int (iZ (105)))] := hl
    refine pb_aload C dX6_of_19 (lv_at hl 0 rfl) ?_
    refine pb_getL C (hG.lt (k := 0) (by decide)) q2173 (fun _ h9 => h9) dX6_of_21 ?_
    refine pb_iload_n C dX6_of_24 rfl (lv_at hl 4 rfl) ?_
    refine pb_icmp_ne C dX6_of_25 (x := 117) (y := 105) (tgt := 31) (by decide) (by omega) (by omega) (fun c25_ => ?_) (fun c25_ => ?_)
    · refine pb_iinc C dX6_of_31 hl (j := 1) (x := 0) rfl (by decide) rfl fun ls hl => ?_
      have hl : lv_has ls 5 [(3, .int (iZ (1))), (4, .ref ((w.2.2.1 (3 + 0)))), (2, .int (iZ (4))), (1, .ref (a9)), (0, .int (iZ (105)))] := hl
      refine pb_goto C dX6_of_34 (tgt := 9) (by decide) ?_
      refine pb_iload_n C dX6_of_9 rfl (lv_at hl 0 rfl) ?_
      refine pb_iload_n C dX6_of_10 rfl (lv_at hl 2 rfl) ?_
      refine pb_icmp_ge C dX6_of_11 (x := 1) (y := 4) (tgt := 37) (by decide) (by omega) (by omega) (fun c11_ => ?_) (fun c11_ => ?_)
      · exact absurd c11_ (by decide)
      · refine pb_aload_n C dX6_of_14 rfl (lv_at hl 3 rfl) ?_
        refine pb_iload_n C dX6_of_15 rfl (lv_at hl 0 rfl) ?_
        refine pb_aald C (t := 5) (by decide) hA9.b (i := 1) (v := .ref ((w.2.2.1 (3 + 1)))) (by omega) rfl dX6_of_16 ?_
        refine pb_astore C dX6_of_17 hl (by decide) rfl fun ls hl => ?_
        have hl : lv_has ls 5 [(4, .ref ((w.2.2.1 (3 + 1)))), (3, .int (iZ (1))), (2, .int (iZ (4))), (1, .ref (a9)), (0, .int (iZ (105)))] := hl
        refine pb_aload C dX6_of_19 (lv_at hl 0 rfl) ?_
        refine pb_getL C (hG.lt (k := 1) (by decide)) q2173 (fun _ h9 => h9) dX6_of_21 ?_
        refine pb_iload_n C dX6_of_24 rfl (lv_at hl 4 rfl) ?_
        refine pb_icmp_ne C dX6_of_25 (x := 105) (y := 105) (tgt := 31) (by decide) (by omega) (by omega) (fun c25_ => ?_) (fun c25_ => ?_)
        · exact absurd c25_ (by decide)
        · refine pb_aload C dX6_of_28 (lv_at hl 0 rfl) ?_
          exact pb_aret C (Or.inl ⟨_, rfl⟩) dX6_of_30 (Or.inr ⟨_, rfl⟩) (⟨_, rfl, rfl, hF1.mono (fun _ _ _ => trivial)⟩)
    · exact absurd c25_ (by decide)

set_option maxHeartbeats 1000000 in
theorem met_X6_of_2 {w : pb_W} (l : Launch) {H0 : Heap}  : pb_M w l yX6_of cX6_of 5 (some (.object "PolygonBoard$Operation")) 2 (1) (4) [.int (iZ (100))] H0 (pb_qr (fun a H1 => a = w.2.2.1 (3 + 2) ∧ pb_F (fun q => q < H0.size) H0 H1)) := by
  refine pb_of (by decide +kernel) (Nat.le_of_ble_eq_true rfl) ?_
  intro p_ e_ s_ m_ ar_ bl_ me_ co_ ls C hh hG hl
  have hl : lv_has ls 5 [(0, .int (iZ (100)))] := hl
  refine pb_go_r (bc' := 0) (bs' := 0) (pb_runS (rest := []) C hG (met_X6_values l) (lw_S q845 q846 q73 q847) hdX6_values rfl hl.1 rfl (Nat.le_of_ble_eq_true rfl) ⟨(Nat.le_of_ble_eq_true rfl), (Nat.le_of_ble_eq_true rfl)⟩ dX6_of_0) (by omega) (by omega) (fun a9 H_ hp_ => ?_)
  obtain ⟨ha9, hA9, hF1⟩ := hp_
  have hG := hG.kept (hF1.mono (fun _ _ _ => trivial))
  refine pb_astore_n C dX6_of_3 rfl hl (by decide) rfl fun ls hl => ?_
  have hl : lv_has ls 5 [(1, .ref (a9)), (0, .int (iZ (100)))] := hl
  refine pb_aload_n C dX6_of_4 rfl (lv_at hl 0 rfl) ?_
  refine pb_alen C (t := 5) (by decide) hA9.b dX6_of_5 ?_
  refine pb_eq (g2 := F0 m_ 6 ls [.int (iZ (4))]) (congrArg (fun z9 => F0 m_ 6 ls [.int (iZ z9)]) (show ((4 : Nat) : Int) = 4 from rfl)) ?_
  refine pb_istore_n C dX6_of_6 rfl hl (by decide) rfl fun ls hl => ?_
  have hl : lv_has ls 5 [(2, .int (iZ (4))), (1, .ref (a9)), (0, .int (iZ (100)))] := hl
  refine pb_ic C dX6_of_7 ?_
  refine pb_istore_n C dX6_of_8 rfl hl (by decide) rfl fun ls hl => ?_
  have hl : lv_has ls 5 [(3, .int (iZ (0))), (2, .int (iZ (4))), (1, .ref (a9)), (0, .int (iZ (100)))] := hl
  refine pb_iload_n C dX6_of_9 rfl (lv_at hl 0 rfl) ?_
  refine pb_iload_n C dX6_of_10 rfl (lv_at hl 1 rfl) ?_
  refine pb_icmp_ge C dX6_of_11 (x := 0) (y := 4) (tgt := 37) (by decide) (by omega) (by omega) (fun c11_ => ?_) (fun c11_ => ?_)
  · exact absurd c11_ (by decide)
  · refine pb_aload_n C dX6_of_14 rfl (lv_at hl 2 rfl) ?_
    refine pb_iload_n C dX6_of_15 rfl (lv_at hl 0 rfl) ?_
    refine pb_aald C (t := 5) (by decide) hA9.b (i := 0) (v := .ref ((w.2.2.1 (3 + 0)))) (by omega) rfl dX6_of_16 ?_
    refine pb_astore C dX6_of_17 hl (by decide) rfl fun ls hl => ?_
    have hl : lv_has ls 5 [(4, .ref ((w.2.2.1 (3 + 0)))), (3, .int (iZ (0))), (2, .int (iZ (4))), (1, .ref (a9)), (0, .int (iZ (100)))] := hl
    refine pb_aload C dX6_of_19 (lv_at hl 0 rfl) ?_
    refine pb_getL C (hG.lt (k := 0) (by decide)) q2173 (fun _ h9 => h9) dX6_of_21 ?_
    refine pb_iload_n C dX6_of_24 rfl (lv_at hl 4 rfl) ?_
    refine pb_icmp_ne C dX6_of_25 (x := 117) (y := 100) (tgt := 31) (by decide) (by omega) (by omega) (fun c25_ => ?_) (fun c25_ => ?_)
    · refine pb_iinc C dX6_of_31 hl (j := 1) (x := 0) rfl (by decide) rfl fun ls hl => ?_
      have hl : lv_has ls 5 [(3, .int (iZ (1))), (4, .ref ((w.2.2.1 (3 + 0)))), (2, .int (iZ (4))), (1, .ref (a9)), (0, .int (iZ (100)))] := hl
      refine pb_goto C dX6_of_34 (tgt := 9) (by decide) ?_
      refine pb_iload_n C dX6_of_9 rfl (lv_at hl 0 rfl) ?_
      refine pb_iload_n C dX6_of_10 rfl (lv_at hl 2 rfl) ?_
      refine pb_icmp_ge C dX6_of_11 (x := 1) (y := 4) (tgt := 37) (by decide) (by omega) (by omega) (fun c11_ => ?_) (fun c11_ => ?_)
      · exact absurd c11_ (by decide)
      · refine pb_aload_n C dX6_of_14 rfl (lv_at hl 3 rfl) ?_
        refine pb_iload_n C dX6_of_15 rfl (lv_at hl 0 rfl) ?_
        refine pb_aald C (t := 5) (by decide) hA9.b (i := 1) (v := .ref ((w.2.2.1 (3 + 1)))) (by omega) rfl dX6_of_16 ?_
        refine pb_astore C dX6_of_17 hl (by decide) rfl fun ls hl => ?_
        have hl : lv_has ls 5 [(4, .ref ((w.2.2.1 (3 + 1)))), (3, .int (iZ (1))), (2, .int (iZ (4))), (1, .ref (a9)), (0, .int (iZ (100)))] := hl
        refine pb_aload C dX6_of_19 (lv_at hl 0 rfl) ?_
        refine pb_getL C (hG.lt (k := 1) (by decide)) q2173 (fun _ h9 => h9) dX6_of_21 ?_
        refine pb_iload_n C dX6_of_24 rfl (lv_at hl 4 rfl) ?_
        refine pb_icmp_ne C dX6_of_25 (x := 105) (y := 100) (tgt := 31) (by decide) (by omega) (by omega) (fun c25_ => ?_) (fun c25_ => ?_)
        · refine pb_iinc C dX6_of_31 hl (j := 1) (x := 1) rfl (by decide) rfl fun ls hl => ?_
          have hl : lv_has ls 5 [(3, .int (iZ (2))), (4, .ref ((w.2.2.1 (3 + 1)))), (2, .int (iZ (4))), (1, .ref (a9)), (0, .int (iZ (100)))] := hl
          refine pb_goto C dX6_of_34 (tgt := 9) (by decide) ?_
          refine pb_iload_n C dX6_of_9 rfl (lv_at hl 0 rfl) ?_
          refine pb_iload_n C dX6_of_10 rfl (lv_at hl 2 rfl) ?_
          refine pb_icmp_ge C dX6_of_11 (x := 2) (y := 4) (tgt := 37) (by decide) (by omega) (by omega) (fun c11_ => ?_) (fun c11_ => ?_)
          · exact absurd c11_ (by decide)
          · refine pb_aload_n C dX6_of_14 rfl (lv_at hl 3 rfl) ?_
            refine pb_iload_n C dX6_of_15 rfl (lv_at hl 0 rfl) ?_
            refine pb_aald C (t := 5) (by decide) hA9.b (i := 2) (v := .ref ((w.2.2.1 (3 + 2)))) (by omega) rfl dX6_of_16 ?_
            refine pb_astore C dX6_of_17 hl (by decide) rfl fun ls hl => ?_
            have hl : lv_has ls 5 [(4, .ref ((w.2.2.1 (3 + 2)))), (3, .int (iZ (2))), (2, .int (iZ (4))), (1, .ref (a9)), (0, .int (iZ (100)))] := hl
            refine pb_aload C dX6_of_19 (lv_at hl 0 rfl) ?_
            refine pb_getL C (hG.lt (k := 2) (by decide)) q2173 (fun _ h9 => h9) dX6_of_21 ?_
            refine pb_iload_n C dX6_of_24 rfl (lv_at hl 4 rfl) ?_
            refine pb_icmp_ne C dX6_of_25 (x := 100) (y := 100) (tgt := 31) (by decide) (by omega) (by omega) (fun c25_ => ?_) (fun c25_ => ?_)
            · exact absurd c25_ (by decide)
            · refine pb_aload C dX6_of_28 (lv_at hl 0 rfl) ?_
              exact pb_aret C (Or.inl ⟨_, rfl⟩) dX6_of_30 (Or.inr ⟨_, rfl⟩) (⟨_, rfl, rfl, hF1.mono (fun _ _ _ => trivial)⟩)
        · exact absurd c25_ (by decide)
    · exact absurd c25_ (by decide)

set_option maxHeartbeats 1000000 in
theorem met_X6_of_3 {w : pb_W} (l : Launch) {H0 : Heap}  : pb_M w l yX6_of cX6_of 5 (some (.object "PolygonBoard$Operation")) 2 (1) (4) [.int (iZ (120))] H0 (pb_qr (fun a H1 => a = w.2.2.1 (3 + 3) ∧ pb_F (fun q => q < H0.size) H0 H1)) := by
  refine pb_of (by decide +kernel) (Nat.le_of_ble_eq_true rfl) ?_
  intro p_ e_ s_ m_ ar_ bl_ me_ co_ ls C hh hG hl
  have hl : lv_has ls 5 [(0, .int (iZ (120)))] := hl
  refine pb_go_r (bc' := 0) (bs' := 0) (pb_runS (rest := []) C hG (met_X6_values l) (lw_S q845 q846 q73 q847) hdX6_values rfl hl.1 rfl (Nat.le_of_ble_eq_true rfl) ⟨(Nat.le_of_ble_eq_true rfl), (Nat.le_of_ble_eq_true rfl)⟩ dX6_of_0) (by omega) (by omega) (fun a9 H_ hp_ => ?_)
  obtain ⟨ha9, hA9, hF1⟩ := hp_
  have hG := hG.kept (hF1.mono (fun _ _ _ => trivial))
  refine pb_astore_n C dX6_of_3 rfl hl (by decide) rfl fun ls hl => ?_
  have hl : lv_has ls 5 [(1, .ref (a9)), (0, .int (iZ (120)))] := hl
  refine pb_aload_n C dX6_of_4 rfl (lv_at hl 0 rfl) ?_
  refine pb_alen C (t := 5) (by decide) hA9.b dX6_of_5 ?_
  refine pb_eq (g2 := F0 m_ 6 ls [.int (iZ (4))]) (congrArg (fun z9 => F0 m_ 6 ls [.int (iZ z9)]) (show ((4 : Nat) : Int) = 4 from rfl)) ?_
  refine pb_istore_n C dX6_of_6 rfl hl (by decide) rfl fun ls hl => ?_
  have hl : lv_has ls 5 [(2, .int (iZ (4))), (1, .ref (a9)), (0, .int (iZ (120)))] := hl
  refine pb_ic C dX6_of_7 ?_
  refine pb_istore_n C dX6_of_8 rfl hl (by decide) rfl fun ls hl => ?_
  have hl : lv_has ls 5 [(3, .int (iZ (0))), (2, .int (iZ (4))), (1, .ref (a9)), (0, .int (iZ (120)))] := hl
  refine pb_iload_n C dX6_of_9 rfl (lv_at hl 0 rfl) ?_
  refine pb_iload_n C dX6_of_10 rfl (lv_at hl 1 rfl) ?_
  refine pb_icmp_ge C dX6_of_11 (x := 0) (y := 4) (tgt := 37) (by decide) (by omega) (by omega) (fun c11_ => ?_) (fun c11_ => ?_)
  · exact absurd c11_ (by decide)
  · refine pb_aload_n C dX6_of_14 rfl (lv_at hl 2 rfl) ?_
    refine pb_iload_n C dX6_of_15 rfl (lv_at hl 0 rfl) ?_
    refine pb_aald C (t := 5) (by decide) hA9.b (i := 0) (v := .ref ((w.2.2.1 (3 + 0)))) (by omega) rfl dX6_of_16 ?_
    refine pb_astore C dX6_of_17 hl (by decide) rfl fun ls hl => ?_
    have hl : lv_has ls 5 [(4, .ref ((w.2.2.1 (3 + 0)))), (3, .int (iZ (0))), (2, .int (iZ (4))), (1, .ref (a9)), (0, .int (iZ (120)))] := hl
    refine pb_aload C dX6_of_19 (lv_at hl 0 rfl) ?_
    refine pb_getL C (hG.lt (k := 0) (by decide)) q2173 (fun _ h9 => h9) dX6_of_21 ?_
    refine pb_iload_n C dX6_of_24 rfl (lv_at hl 4 rfl) ?_
    refine pb_icmp_ne C dX6_of_25 (x := 117) (y := 120) (tgt := 31) (by decide) (by omega) (by omega) (fun c25_ => ?_) (fun c25_ => ?_)
    · refine pb_iinc C dX6_of_31 hl (j := 1) (x := 0) rfl (by decide) rfl fun ls hl => ?_
      have hl : lv_has ls 5 [(3, .int (iZ (1))), (4, .ref ((w.2.2.1 (3 + 0)))), (2, .int (iZ (4))), (1, .ref (a9)), (0, .int (iZ (120)))] := hl
      refine pb_goto C dX6_of_34 (tgt := 9) (by decide) ?_
      refine pb_iload_n C dX6_of_9 rfl (lv_at hl 0 rfl) ?_
      refine pb_iload_n C dX6_of_10 rfl (lv_at hl 2 rfl) ?_
      refine pb_icmp_ge C dX6_of_11 (x := 1) (y := 4) (tgt := 37) (by decide) (by omega) (by omega) (fun c11_ => ?_) (fun c11_ => ?_)
      · exact absurd c11_ (by decide)
      · refine pb_aload_n C dX6_of_14 rfl (lv_at hl 3 rfl) ?_
        refine pb_iload_n C dX6_of_15 rfl (lv_at hl 0 rfl) ?_
        refine pb_aald C (t := 5) (by decide) hA9.b (i := 1) (v := .ref ((w.2.2.1 (3 + 1)))) (by omega) rfl dX6_of_16 ?_
        refine pb_astore C dX6_of_17 hl (by decide) rfl fun ls hl => ?_
        have hl : lv_has ls 5 [(4, .ref ((w.2.2.1 (3 + 1)))), (3, .int (iZ (1))), (2, .int (iZ (4))), (1, .ref (a9)), (0, .int (iZ (120)))] := hl
        refine pb_aload C dX6_of_19 (lv_at hl 0 rfl) ?_
        refine pb_getL C (hG.lt (k := 1) (by decide)) q2173 (fun _ h9 => h9) dX6_of_21 ?_
        refine pb_iload_n C dX6_of_24 rfl (lv_at hl 4 rfl) ?_
        refine pb_icmp_ne C dX6_of_25 (x := 105) (y := 120) (tgt := 31) (by decide) (by omega) (by omega) (fun c25_ => ?_) (fun c25_ => ?_)
        · refine pb_iinc C dX6_of_31 hl (j := 1) (x := 1) rfl (by decide) rfl fun ls hl => ?_
          have hl : lv_has ls 5 [(3, .int (iZ (2))), (4, .ref ((w.2.2.1 (3 + 1)))), (2, .int (iZ (4))), (1, .ref (a9)), (0, .int (iZ (120)))] := hl
          refine pb_goto C dX6_of_34 (tgt := 9) (by decide) ?_
          refine pb_iload_n C dX6_of_9 rfl (lv_at hl 0 rfl) ?_
          refine pb_iload_n C dX6_of_10 rfl (lv_at hl 2 rfl) ?_
          refine pb_icmp_ge C dX6_of_11 (x := 2) (y := 4) (tgt := 37) (by decide) (by omega) (by omega) (fun c11_ => ?_) (fun c11_ => ?_)
          · exact absurd c11_ (by decide)
          · refine pb_aload_n C dX6_of_14 rfl (lv_at hl 3 rfl) ?_
            refine pb_iload_n C dX6_of_15 rfl (lv_at hl 0 rfl) ?_
            refine pb_aald C (t := 5) (by decide) hA9.b (i := 2) (v := .ref ((w.2.2.1 (3 + 2)))) (by omega) rfl dX6_of_16 ?_
            refine pb_astore C dX6_of_17 hl (by decide) rfl fun ls hl => ?_
            have hl : lv_has ls 5 [(4, .ref ((w.2.2.1 (3 + 2)))), (3, .int (iZ (2))), (2, .int (iZ (4))), (1, .ref (a9)), (0, .int (iZ (120)))] := hl
            refine pb_aload C dX6_of_19 (lv_at hl 0 rfl) ?_
            refine pb_getL C (hG.lt (k := 2) (by decide)) q2173 (fun _ h9 => h9) dX6_of_21 ?_
            refine pb_iload_n C dX6_of_24 rfl (lv_at hl 4 rfl) ?_
            refine pb_icmp_ne C dX6_of_25 (x := 100) (y := 120) (tgt := 31) (by decide) (by omega) (by omega) (fun c25_ => ?_) (fun c25_ => ?_)
            · refine pb_iinc C dX6_of_31 hl (j := 1) (x := 2) rfl (by decide) rfl fun ls hl => ?_
              have hl : lv_has ls 5 [(3, .int (iZ (3))), (4, .ref ((w.2.2.1 (3 + 2)))), (2, .int (iZ (4))), (1, .ref (a9)), (0, .int (iZ (120)))] := hl
              refine pb_goto C dX6_of_34 (tgt := 9) (by decide) ?_
              refine pb_iload_n C dX6_of_9 rfl (lv_at hl 0 rfl) ?_
              refine pb_iload_n C dX6_of_10 rfl (lv_at hl 2 rfl) ?_
              refine pb_icmp_ge C dX6_of_11 (x := 3) (y := 4) (tgt := 37) (by decide) (by omega) (by omega) (fun c11_ => ?_) (fun c11_ => ?_)
              · exact absurd c11_ (by decide)
              · refine pb_aload_n C dX6_of_14 rfl (lv_at hl 3 rfl) ?_
                refine pb_iload_n C dX6_of_15 rfl (lv_at hl 0 rfl) ?_
                refine pb_aald C (t := 5) (by decide) hA9.b (i := 3) (v := .ref ((w.2.2.1 (3 + 3)))) (by omega) rfl dX6_of_16 ?_
                refine pb_astore C dX6_of_17 hl (by decide) rfl fun ls hl => ?_
                have hl : lv_has ls 5 [(4, .ref ((w.2.2.1 (3 + 3)))), (3, .int (iZ (3))), (2, .int (iZ (4))), (1, .ref (a9)), (0, .int (iZ (120)))] := hl
                refine pb_aload C dX6_of_19 (lv_at hl 0 rfl) ?_
                refine pb_getL C (hG.lt (k := 3) (by decide)) q2173 (fun _ h9 => h9) dX6_of_21 ?_
                refine pb_iload_n C dX6_of_24 rfl (lv_at hl 4 rfl) ?_
                refine pb_icmp_ne C dX6_of_25 (x := 120) (y := 120) (tgt := 31) (by decide) (by omega) (by omega) (fun c25_ => ?_) (fun c25_ => ?_)
                · exact absurd c25_ (by decide)
                · refine pb_aload C dX6_of_28 (lv_at hl 0 rfl) ?_
                  exact pb_aret C (Or.inl ⟨_, rfl⟩) dX6_of_30 (Or.inr ⟨_, rfl⟩) (⟨_, rfl, rfl, hF1.mono (fun _ _ _ => trivial)⟩)
            · exact absurd c25_ (by decide)
        · exact absurd c25_ (by decide)
    · exact absurd c25_ (by decide)

set_option maxHeartbeats 1000000 in
theorem met_X6_of_n {w : pb_W} (l : Launch) {H0 : Heap} (c : Int) (hc : 0 ≤ c ∧ c ≤ 65535) (hn : c ≠ 117 ∧ c ≠ 105 ∧ c ≠ 100 ∧ c ≠ 120) : pb_M w l yX6_of cX6_of 5 (some (.object "PolygonBoard$Operation")) 2 (1) (4) [.int (iZ (c))] H0 (pb_qq (fun v H1 => v = .null ∧ pb_F (fun q => q < H0.size) H0 H1)) := by
  refine pb_of (by decide +kernel) (Nat.le_of_ble_eq_true rfl) ?_
  intro p_ e_ s_ m_ ar_ bl_ me_ co_ ls C hh hG hl
  have hl : lv_has ls 5 [(0, .int (iZ (c)))] := hl
  refine pb_go_r (bc' := 0) (bs' := 0) (pb_runS (rest := []) C hG (met_X6_values l) (lw_S q845 q846 q73 q847) hdX6_values rfl hl.1 rfl (Nat.le_of_ble_eq_true rfl) ⟨(Nat.le_of_ble_eq_true rfl), (Nat.le_of_ble_eq_true rfl)⟩ dX6_of_0) (by omega) (by omega) (fun a9 H_ hp_ => ?_)
  obtain ⟨ha9, hA9, hF1⟩ := hp_
  have hG := hG.kept (hF1.mono (fun _ _ _ => trivial))
  refine pb_astore_n C dX6_of_3 rfl hl (by decide) rfl fun ls hl => ?_
  have hl : lv_has ls 5 [(1, .ref (a9)), (0, .int (iZ (c)))] := hl
  refine pb_aload_n C dX6_of_4 rfl (lv_at hl 0 rfl) ?_
  refine pb_alen C (t := 5) (by decide) hA9.b dX6_of_5 ?_
  refine pb_eq (g2 := F0 m_ 6 ls [.int (iZ (4))]) (congrArg (fun z9 => F0 m_ 6 ls [.int (iZ z9)]) (show ((4 : Nat) : Int) = 4 from rfl)) ?_
  refine pb_istore_n C dX6_of_6 rfl hl (by decide) rfl fun ls hl => ?_
  have hl : lv_has ls 5 [(2, .int (iZ (4))), (1, .ref (a9)), (0, .int (iZ (c)))] := hl
  refine pb_ic C dX6_of_7 ?_
  refine pb_istore_n C dX6_of_8 rfl hl (by decide) rfl fun ls hl => ?_
  have hl : lv_has ls 5 [(3, .int (iZ (0))), (2, .int (iZ (4))), (1, .ref (a9)), (0, .int (iZ (c)))] := hl
  refine pb_iload_n C dX6_of_9 rfl (lv_at hl 0 rfl) ?_
  refine pb_iload_n C dX6_of_10 rfl (lv_at hl 1 rfl) ?_
  refine pb_icmp_ge C dX6_of_11 (x := 0) (y := 4) (tgt := 37) (by decide) (by omega) (by omega) (fun c11_ => ?_) (fun c11_ => ?_)
  · exact absurd c11_ (by decide)
  · refine pb_aload_n C dX6_of_14 rfl (lv_at hl 2 rfl) ?_
    refine pb_iload_n C dX6_of_15 rfl (lv_at hl 0 rfl) ?_
    refine pb_aald C (t := 5) (by decide) hA9.b (i := 0) (v := .ref ((w.2.2.1 (3 + 0)))) (by omega) rfl dX6_of_16 ?_
    refine pb_astore C dX6_of_17 hl (by decide) rfl fun ls hl => ?_
    have hl : lv_has ls 5 [(4, .ref ((w.2.2.1 (3 + 0)))), (3, .int (iZ (0))), (2, .int (iZ (4))), (1, .ref (a9)), (0, .int (iZ (c)))] := hl
    refine pb_aload C dX6_of_19 (lv_at hl 0 rfl) ?_
    refine pb_getL C (hG.lt (k := 0) (by decide)) q2173 (fun _ h9 => h9) dX6_of_21 ?_
    refine pb_iload_n C dX6_of_24 rfl (lv_at hl 4 rfl) ?_
    refine pb_icmp_ne C dX6_of_25 (x := 117) (y := c) (tgt := 31) (by decide) (by omega) (by omega) (fun c25_ => ?_) (fun c25_ => ?_)
    · refine pb_iinc C dX6_of_31 hl (j := 1) (x := 0) rfl (by decide) rfl fun ls hl => ?_
      have hl : lv_has ls 5 [(3, .int (iZ (1))), (4, .ref ((w.2.2.1 (3 + 0)))), (2, .int (iZ (4))), (1, .ref (a9)), (0, .int (iZ (c)))] := hl
      refine pb_goto C dX6_of_34 (tgt := 9) (by decide) ?_
      refine pb_iload_n C dX6_of_9 rfl (lv_at hl 0 rfl) ?_
      refine pb_iload_n C dX6_of_10 rfl (lv_at hl 2 rfl) ?_
      refine pb_icmp_ge C dX6_of_11 (x := 1) (y := 4) (tgt := 37) (by decide) (by omega) (by omega) (fun c11_ => ?_) (fun c11_ => ?_)
      · exact absurd c11_ (by decide)
      · refine pb_aload_n C dX6_of_14 rfl (lv_at hl 3 rfl) ?_
        refine pb_iload_n C dX6_of_15 rfl (lv_at hl 0 rfl) ?_
        refine pb_aald C (t := 5) (by decide) hA9.b (i := 1) (v := .ref ((w.2.2.1 (3 + 1)))) (by omega) rfl dX6_of_16 ?_
        refine pb_astore C dX6_of_17 hl (by decide) rfl fun ls hl => ?_
        have hl : lv_has ls 5 [(4, .ref ((w.2.2.1 (3 + 1)))), (3, .int (iZ (1))), (2, .int (iZ (4))), (1, .ref (a9)), (0, .int (iZ (c)))] := hl
        refine pb_aload C dX6_of_19 (lv_at hl 0 rfl) ?_
        refine pb_getL C (hG.lt (k := 1) (by decide)) q2173 (fun _ h9 => h9) dX6_of_21 ?_
        refine pb_iload_n C dX6_of_24 rfl (lv_at hl 4 rfl) ?_
        refine pb_icmp_ne C dX6_of_25 (x := 105) (y := c) (tgt := 31) (by decide) (by omega) (by omega) (fun c25_ => ?_) (fun c25_ => ?_)
        · refine pb_iinc C dX6_of_31 hl (j := 1) (x := 1) rfl (by decide) rfl fun ls hl => ?_
          have hl : lv_has ls 5 [(3, .int (iZ (2))), (4, .ref ((w.2.2.1 (3 + 1)))), (2, .int (iZ (4))), (1, .ref (a9)), (0, .int (iZ (c)))] := hl
          refine pb_goto C dX6_of_34 (tgt := 9) (by decide) ?_
          refine pb_iload_n C dX6_of_9 rfl (lv_at hl 0 rfl) ?_
          refine pb_iload_n C dX6_of_10 rfl (lv_at hl 2 rfl) ?_
          refine pb_icmp_ge C dX6_of_11 (x := 2) (y := 4) (tgt := 37) (by decide) (by omega) (by omega) (fun c11_ => ?_) (fun c11_ => ?_)
          · exact absurd c11_ (by decide)
          · refine pb_aload_n C dX6_of_14 rfl (lv_at hl 3 rfl) ?_
            refine pb_iload_n C dX6_of_15 rfl (lv_at hl 0 rfl) ?_
            refine pb_aald C (t := 5) (by decide) hA9.b (i := 2) (v := .ref ((w.2.2.1 (3 + 2)))) (by omega) rfl dX6_of_16 ?_
            refine pb_astore C dX6_of_17 hl (by decide) rfl fun ls hl => ?_
            have hl : lv_has ls 5 [(4, .ref ((w.2.2.1 (3 + 2)))), (3, .int (iZ (2))), (2, .int (iZ (4))), (1, .ref (a9)), (0, .int (iZ (c)))] := hl
            refine pb_aload C dX6_of_19 (lv_at hl 0 rfl) ?_
            refine pb_getL C (hG.lt (k := 2) (by decide)) q2173 (fun _ h9 => h9) dX6_of_21 ?_
            refine pb_iload_n C dX6_of_24 rfl (lv_at hl 4 rfl) ?_
            refine pb_icmp_ne C dX6_of_25 (x := 100) (y := c) (tgt := 31) (by decide) (by omega) (by omega) (fun c25_ => ?_) (fun c25_ => ?_)
            · refine pb_iinc C dX6_of_31 hl (j := 1) (x := 2) rfl (by decide) rfl fun ls hl => ?_
              have hl : lv_has ls 5 [(3, .int (iZ (3))), (4, .ref ((w.2.2.1 (3 + 2)))), (2, .int (iZ (4))), (1, .ref (a9)), (0, .int (iZ (c)))] := hl
              refine pb_goto C dX6_of_34 (tgt := 9) (by decide) ?_
              refine pb_iload_n C dX6_of_9 rfl (lv_at hl 0 rfl) ?_
              refine pb_iload_n C dX6_of_10 rfl (lv_at hl 2 rfl) ?_
              refine pb_icmp_ge C dX6_of_11 (x := 3) (y := 4) (tgt := 37) (by decide) (by omega) (by omega) (fun c11_ => ?_) (fun c11_ => ?_)
              · exact absurd c11_ (by decide)
              · refine pb_aload_n C dX6_of_14 rfl (lv_at hl 3 rfl) ?_
                refine pb_iload_n C dX6_of_15 rfl (lv_at hl 0 rfl) ?_
                refine pb_aald C (t := 5) (by decide) hA9.b (i := 3) (v := .ref ((w.2.2.1 (3 + 3)))) (by omega) rfl dX6_of_16 ?_
                refine pb_astore C dX6_of_17 hl (by decide) rfl fun ls hl => ?_
                have hl : lv_has ls 5 [(4, .ref ((w.2.2.1 (3 + 3)))), (3, .int (iZ (3))), (2, .int (iZ (4))), (1, .ref (a9)), (0, .int (iZ (c)))] := hl
                refine pb_aload C dX6_of_19 (lv_at hl 0 rfl) ?_
                refine pb_getL C (hG.lt (k := 3) (by decide)) q2173 (fun _ h9 => h9) dX6_of_21 ?_
                refine pb_iload_n C dX6_of_24 rfl (lv_at hl 4 rfl) ?_
                refine pb_icmp_ne C dX6_of_25 (x := 120) (y := c) (tgt := 31) (by decide) (by omega) (by omega) (fun c25_ => ?_) (fun c25_ => ?_)
                · refine pb_iinc C dX6_of_31 hl (j := 1) (x := 3) rfl (by decide) rfl fun ls hl => ?_
                  have hl : lv_has ls 5 [(3, .int (iZ (4))), (4, .ref ((w.2.2.1 (3 + 3)))), (2, .int (iZ (4))), (1, .ref (a9)), (0, .int (iZ (c)))] := hl
                  refine pb_goto C dX6_of_34 (tgt := 9) (by decide) ?_
                  refine pb_iload_n C dX6_of_9 rfl (lv_at hl 0 rfl) ?_
                  refine pb_iload_n C dX6_of_10 rfl (lv_at hl 2 rfl) ?_
                  refine pb_icmp_ge C dX6_of_11 (x := 4) (y := 4) (tgt := 37) (by decide) (by omega) (by omega) (fun c11_ => ?_) (fun c11_ => ?_)
                  · refine pb_anull C dX6_of_37 ?_
                    exact pb_aret C (Or.inl ⟨_, rfl⟩) dX6_of_38 (Or.inl rfl) (⟨_, rfl, rfl, hF1.mono (fun _ _ _ => trivial)⟩)
                  · exact absurd c11_ (by decide)
                · omega
            · omega
        · omega
    · omega

theorem met_X6_of {w : pb_W} (l : Launch) {H0 : Heap} (k : Nat) (hk : k < 4) : pb_M w l yX6_of cX6_of 5 (some (.object "PolygonBoard$Operation")) 2 1 4 [.int (iZ (ltK k))] H0 (pb_qr (fun a H1 => a = w.2.2.1 (3 + k) ∧ pb_F (fun q => q < H0.size) H0 H1)) := by
  match k, hk with
  | 0, _ => exact met_X6_of_0 l
  | 1, _ => exact met_X6_of_1 l
  | 2, _ => exact met_X6_of_2 l
  | 3, _ => exact met_X6_of_3 l
set_option maxHeartbeats 1000000 in
theorem met_X1_combine {w : pb_W} (l : Launch) {H0 : Heap} (M : Nat → Prop) (b sl e : Nat) (pv : Value) (V : List Nat) (G : Nat → Nat → Nat) (hB : BP w H0 M b sl e pv V G) (hM : ∀ q, H0.size ≤ q → M q) (s : Nat) (hs : s < 8) (u : Nat) (hu : u < 8) (t : Nat) (ht : t < 8) (g : Nat → Nat) (hg9 : gok g) (k : Nat) (hk : k < 4) (he9 : ∀ x y, gc g x y = opk k (gc (G s) x y) (gc (G u) x y)) : pb_M w l yX1_combine cX1_combine 8 (some .int) 9 (251) (3486) [.ref (b), .int (iZ ((ltK k))), .int (iZ (((s : Nat) : Int))), .int (iZ (((u : Nat) : Int))), .int (iZ (((t : Nat) : Int)))] H0 (pb_qi (fun z H1 => z = ((cnt g : Nat) : Int) ∧ (∃ r, BP w H1 M b sl e pv (V.set t r) (gup G t g)) ∧ pb_F (fun q => q < H0.size ∧ q ≠ e) H0 H1)) := by
  refine pb_of (by decide +kernel) (Nat.le_of_ble_eq_true rfl) ?_
  intro p_ e_ s_ m_ ar_ bl_ me_ co_ ls C hh hG hl
  have hl : lv_has ls 8 [(0, .ref (b)), (1, .int (iZ ((ltK k)))), (2, .int (iZ (((s : Nat) : Int)))), (3, .int (iZ (((u : Nat) : Int)))), (4, .int (iZ (((t : Nat) : Int))))] := hl
  have hzs := hG.1
  have hba := hB.a
  have hbp := hB
  obtain ⟨hO, hzb, hL, hV8, hQQ⟩ := id hbp
  have hS := hB.sq
  obtain ⟨fsl_, hLo⟩ := hL.o
  have hFF : pb_F (fun q => q < H0.size) H0 H0 := pb_F.rf
  refine pb_aload_n C dX1_combine_0 rfl (lv_at hl 0 rfl) ?_
  refine pb_iload_n C dX1_combine_1 rfl (lv_at hl 2 rfl) ?_
  refine pb_go_x (bc' := 251) (bs' := 3486) (pb_runV (rest := []) C hG (met_X1_region l b sl pv V _ G hS s hs) hO.r (ci := 0) rfl (lw_V q325 q327 qs4 q51 q328) ⟨rfl, hdX1_region⟩ rfl hl.1 rfl (Nat.le_of_ble_eq_true rfl) ⟨(Nat.le_of_ble_eq_true rfl), (Nat.le_of_ble_eq_true rfl)⟩ dX1_combine_2) (by omega) (by omega) ?_
  refine pb_astore C dX1_combine_5 hl (by decide) rfl fun ls hl => ?_
  have hl : lv_has ls 8 [(5, .ref ((nV V s))), (0, .ref (b)), (1, .int (iZ ((ltK k)))), (2, .int (iZ (((s : Nat) : Int)))), (3, .int (iZ (((u : Nat) : Int)))), (4, .int (iZ (((t : Nat) : Int))))] := hl
  refine pb_aload_n C dX1_combine_7 rfl (lv_at hl 1 rfl) ?_
  refine pb_iload_n C dX1_combine_8 rfl (lv_at hl 4 rfl) ?_
  refine pb_go_x (bc' := 251) (bs' := 3486) (pb_runV (rest := []) C hG (met_X1_region l b sl pv V _ G hS u hu) hO.r (ci := 0) rfl (lw_V q325 q327 qs4 q51 q328) ⟨rfl, hdX1_region⟩ rfl hl.1 rfl (Nat.le_of_ble_eq_true rfl) ⟨(Nat.le_of_ble_eq_true rfl), (Nat.le_of_ble_eq_true rfl)⟩ dX1_combine_9) (by omega) (by omega) ?_
  refine pb_astore C dX1_combine_12 hl (by decide) rfl fun ls hl => ?_
  have hl : lv_has ls 8 [(6, .ref ((nV V u))), (5, .ref ((nV V s))), (0, .ref (b)), (1, .int (iZ ((ltK k)))), (2, .int (iZ (((s : Nat) : Int)))), (3, .int (iZ (((u : Nat) : Int)))), (4, .int (iZ (((t : Nat) : Int))))] := hl
  refine pb_aload_n C dX1_combine_14 rfl (lv_at hl 2 rfl) ?_
  refine pb_iload C dX1_combine_15 (lv_at hl 6 rfl) ?_
  refine pb_go_x (bc' := 251) (bs' := 3486) (pb_runV (rest := []) C hG (met_X1_region l b sl pv V _ G hS t ht) hO.r (ci := 0) rfl (lw_V q325 q327 qs4 q51 q328) ⟨rfl, hdX1_region⟩ rfl hl.1 rfl (Nat.le_of_ble_eq_true rfl) ⟨(Nat.le_of_ble_eq_true rfl), (Nat.le_of_ble_eq_true rfl)⟩ dX1_combine_17) (by omega) (by omega) ?_
  refine pb_pop C dX1_combine_20 rfl ?_
  refine pb_iload_n C dX1_combine_21 rfl (lv_at hl 3 rfl) ?_
  refine pb_go_r (bc' := 250) (bs' := 3482) (pb_runS (rest := []) C hG (met_X6_of l k hk) (lw_S q842 q843 q73 q844) hdX6_of rfl hl.1 rfl (Nat.le_of_ble_eq_true rfl) ⟨(Nat.le_of_ble_eq_true rfl), (Nat.le_of_ble_eq_true rfl)⟩ dX1_combine_22) (by omega) (by omega) (fun o9 H1 hp_ => ?_)
  obtain ⟨rfl, hF1⟩ := hp_
  have hs1 := hF1.1
  have hG := hG.kept (hF1.mono (fun q _ (hq : q < w.2.2.2) => show q < _ from by omega))
  have hFF := hFF.tr hF1
  have hB := hB.kept hF1
  have hO := hB.1
  have hS := hS.kept hF1
  obtain ⟨fsr_, hRo⟩ : ∃ fs, pb_R w H1 (nV V s) 1 fs := by
    obtain ⟨-, L9, hR9, -⟩ := hS.2 s hs
    exact hR9.o
  refine pb_astore C dX1_combine_25 hl (by decide) rfl fun ls hl => ?_
  have hl : lv_has ls 8 [(7, .ref ((w.2.2.1 (3 + k)))), (6, .ref ((nV V u))), (5, .ref ((nV V s))), (0, .ref (b)), (1, .int (iZ ((ltK k)))), (2, .int (iZ (((s : Nat) : Int)))), (3, .int (iZ (((u : Nat) : Int)))), (4, .int (iZ (((t : Nat) : Int))))] := hl
  refine pb_aload C dX1_combine_27 (lv_at hl 0 rfl) ?_
  refine pb_ifnull C dX1_combine_29 ?_
  refine pb_ic C dX1_combine_32 ?_
  refine pb_goto C dX1_combine_33 (tgt := 37) (by decide) ?_
  refine pb_go_n (bc' := 250) (bs' := 3482) (pb_runS (rest := []) C hG (met_X1_checkArgument l) (lw_S q381 q382 q51 q383) hdX1_checkArgument rfl hl.1 rfl (Nat.le_of_ble_eq_true rfl) ⟨(Nat.le_of_ble_eq_true rfl), (Nat.le_of_ble_eq_true rfl)⟩ dX1_combine_37) (by omega) (by omega) ?_
  refine pb_aload_n C dX1_combine_40 rfl (lv_at hl 3 rfl) ?_
  refine pb_iload C dX1_combine_41 (lv_at hl 7 rfl) ?_
  refine pb_aload C dX1_combine_43 (lv_at hl 2 rfl) ?_
  refine pb_aload C dX1_combine_45 (lv_at hl 1 rfl) ?_
  refine pb_aload C dX1_combine_47 (lv_at hl 0 rfl) ?_
  refine pb_go_r (bc' := 2) (bs' := 6) (pb_runV (rest := [.int (iZ (((t : Nat) : Int))), .ref (b)]) C hG (met_X2_combine_g l (nV V s) (nV V u) k hk _ _ (G s) (G u) (hS.2 s hs) (hS.2 u hu)) hRo (ci := 1) rfl (lw_V q664 q665 q666 q55 q667) ⟨rfl, hdX2_combine⟩ rfl hl.1 rfl (Nat.le_of_ble_eq_true rfl) ⟨(Nat.le_of_ble_eq_true rfl), (Nat.le_of_ble_eq_true rfl)⟩ dX1_combine_49) (by omega) (by omega) (fun r8 H5 hp_ => ?_)
  obtain ⟨L8, hR8, hr8, hF5⟩ := hp_
  have hs5 := hF5.1
  have hG := hG.kept (hF5.mono (fun q _ (hq : q < w.2.2.2) => show q < _ from by omega))
  have hFF := hFF.tr (hF5.mono (fun q _ (hq : q < H0.size) => show q < _ from by omega))
  have hB := hB.kept hF5
  have hO := hB.1
  have hQn : Rq w H5 _ r8 g := ⟨hg9, L8, hR8, rs_cong hr8 (fun x y => (he9 x y).symm)⟩
  refine pb_go_i (bc' := 0) (bs' := 0) (pb_runV (rest := []) C hG (met_X1_put l M b sl e pv V G hB t ht r8 _ g hQn (fun q _ hq => ⟨by have := hq.1; omega, by have := hq.1; omega, by have := hq.1; omega, hM q (by have := hq.1; omega)⟩)) hO.r (ci := 0) rfl (lw_V q716 q718 qs8 q51 q719) ⟨rfl, hdX1_put⟩ rfl hl.1 rfl (Nat.le_of_ble_eq_true rfl) ⟨(Nat.le_of_ble_eq_true rfl), (Nat.le_of_ble_eq_true rfl)⟩ dX1_combine_52) (by omega) (by omega) (fun z_ H9 hp_ => ?_)
  obtain ⟨rfl, hB, hF9⟩ := hp_
  have hFE : pb_F (fun q => q < H0.size ∧ q ≠ e) H0 H9 := (hFF.mono (fun q _ hq => hq.1)).tr (hF9.mono (fun q _ hq => (⟨by have := hFF.1; have := hq.1; omega, hq.2⟩ : q < _ ∧ q ≠ e)))
  exact pb_iret C dX1_combine_55 (⟨_, rfl, rfl, ⟨_, hB⟩, hFE⟩)

