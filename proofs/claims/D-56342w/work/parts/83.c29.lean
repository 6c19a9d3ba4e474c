set_option maxRecDepth 100000
theorem wkF_0 : wkF (fun _ => 0) = fun _ => .int (iZ 0) := by
  funext i
  unfold wkF bit
  rw [Nat.zero_testBit]; rfl
theorem LJ_00 {g W0 : Nat → Nat} (hw : w16 W0) (d : Nat × Nat × Nat) : LJ g W0 d 0 W0 := by
  refine ⟨hw, fun e _ => ⟨Or.inl, fun z => ?_⟩, fun i hi => absurd hi (by omega), rfl⟩
  rcases z with z | ⟨i, hi, _⟩
  · exact z
  · omega
set_option maxHeartbeats 2000000 in
theorem met_X14_trace {w : pb_W} (l : Launch) {H0 : Heap} (t c u ol : Nat) (g : Nat → Nat) (hg : gok g) (hT0 : pb_R w H0 t 12 [.ref c, .ref u, .ref ol]) (htu : t ≠ u) (hQ0 : Cq w H0 (fun q => q < H0.size ∧ q ≠ u) c g) (W0 : Nat → Nat) (hU : pb_A w H0 u 1 2500 (wkF W0)) (hzu : w.2.2.2 ≤ u) (x0 y0 a0 : Nat) (hd : lok g (x0, y0, a0)) (h0 : ¬ bit W0 (x0, y0, a0) = true) (hpcl : pcl g W0) (hw16 : w16 W0) : pb_M w l yX14_trace cX14_trace 9 (some (.object "PolygonBoard$Outline")) 8 (ocC g (x0, y0, a0)) (ocS g (x0, y0, a0)) [.ref (t), .int (iZ (((x0 : Nat) : Int))), .int (iZ (((y0 : Nat) : Int))), .int (iZ (((a0 : Nat) : Int)))] H0 (pb_qr (fun o H1 => ∃ W xa xe ye ya, Ob w H1 H0.size o xa xe ya ye (crn g (x0, y0, a0)) (arA g (x0, y0, a0)) ∧ pb_A w H1 u 1 2500 (wkF W) ∧ LJ g W0 (x0, y0, a0) (per g (x0, y0, a0)) W ∧ bit W (Dk g (x0, y0, a0) (per g (x0, y0, a0))) = true ∧ pb_F (fun q => q < H0.size ∧ q ≠ u) H0 H1)) := by
  refine pb_of (by decide +kernel) (Nat.le_of_ble_eq_true rfl) ?_
  intro p_ e_ s_ m_ ar_ bl_ me_ co_ ls C hh hG hl
  have hl : lv_has ls 9 [(0, .ref (t)), (1, .int (iZ (((x0 : Nat) : Int)))), (2, .int (iZ (((y0 : Nat) : Int)))), (3, .int (iZ (((a0 : Nat) : Int))))] := hl
  have hzs := hG.1
  have huz := hU.lt
  have htl := hT0.lt
  have hFF : pb_F (fun q => q < H0.size ∧ q ≠ u) H0 H0 := pb_F.rf
  obtain ⟨N9, hN9⟩ : ∃ N9, N9 = (crn g (x0, y0, a0)).length := ⟨_, rfl⟩
  have hoc : ocC g (x0, y0, a0) = 3 + 2 * lC N9 ∧ ocS g (x0, y0, a0) = 9 + 2 * lS N9 := by rw [hN9]; exact ⟨rfl, rfl⟩
  have L27 : ∀ (n_ : Nat) (k x y a xa xe ya ye : Nat) (C9 : List (Nat × Nat × Nat)) (W : Nat → Nat) (ar : Int) (H : Heap), 1300 - k = n_ → (pb_G w s_ H) → (LJ g W0 (x0, y0, a0) k W) → (Dk g (x0, y0, a0) k = (x, y, a)) → (C9 = crL g W (x0, y0, a0) k (x, y, a)) → (ar = arK g (x0, y0, a0) k) → (Ob w H H0.size H0.size xa xe ya ye C9 ar) → (pb_A w H u 1 2500 (wkF W)) → (H0.size < H.size) → (pb_F (fun q => q < H0.size ∧ q ≠ u) H0 H) → ∀ (ls : Array Slot), lv_has ls 9 [(0, .ref (t)), (4, .ref (H0.size)), (5, .int (iZ (((x : Nat) : Int)))), (6, .int (iZ (((y : Nat) : Int)))), (7, .int (iZ (((a : Nat) : Int))))] → pb_V w.2.2.2 p_ l e_ (pb_rm 8 (ocC g (x0, y0, a0)) (ocS g (x0, y0, a0))) s_ m_ ar_ bl_ me_ co_ H (2 * (lC N9 - lC C9.length)) (2 * (lS N9 - lS C9.length)) (pb_E w bl_ ar_ s_ (ocC g (x0, y0, a0)) (ocS g (x0, y0, a0)) (pb_qr (fun o H1 => ∃ W xa xe ye ya, Ob w H1 H0.size o xa xe ya ye (crn g (x0, y0, a0)) (arA g (x0, y0, a0)) ∧ pb_A w H1 u 1 2500 (wkF W) ∧ LJ g W0 (x0, y0, a0) (per g (x0, y0, a0)) W ∧ bit W (Dk g (x0, y0, a0) (per g (x0, y0, a0))) = true ∧ pb_F (fun q => q < H0.size ∧ q ≠ u) H0 H1))) (F0 m_ 27 ls []) := by
    intro n_
    induction n_ using Nat.strongRecOn with
    | _ n_ ih27 =>
    intro k x y a xa xe ya ye C9 W ar H hm_ hG hL he hC har hOb hU hsz hFF ls hl
    have hT := hT0.kept (hFF.2 _ hT0.lt ⟨hT0.lt, htu⟩)
    have hQ := hQ0.kept hFF
    have hlk := lok_Dk hg hd k
    rw [he] at hlk
    have hlx : x ≤ 24 := hlk.1
    have hly : y ≤ 24 := hlk.2.1
    have hla : a < 4 := hlk.2.2.1
    obtain ⟨hzo, hO, hX, hY, h5, h6, h7⟩ := id hOb
    have hCN := crL_len hg hd hL he
    rw [← hC, ← hN9] at hCN
    have hcl2 := lC_le hCN
    have hcl3 := lS_le hCN
    have hkb := LJ_b hg hd hL hpcl
    have harr := arK_rng hg hd k
    refine pb_aload_n C dX14_trace_27 rfl (lv_at hl 0 rfl) ?_
    refine pb_get C in_X14 hT (ci := 12) rfl 1 (by decide) q1306 (fun _ h9 => h9) (v := .ref (u)) rfl dX14_trace_28 ?_
    refine pb_iload C dX14_trace_31 (lv_at hl 2 rfl) ?_
    refine pb_iload C dX14_trace_33 (lv_at hl 3 rfl) ?_
    refine pb_iload C dX14_trace_35 (lv_at hl 4 rfl) ?_
    refine pb_go_x (bc' := 2 * (lC N9 - lC C9.length)) (bs' := 2 * (lS N9 - lS C9.length)) (pb_runS (rest := [.ref (u)]) C hG (met_X14_indexOf l x y a) (lw_S q1290 q1291 q86 q1292) hdX14_indexOf rfl hl.1 rfl (Nat.le_of_ble_eq_true rfl) ⟨(Nat.le_of_ble_eq_true rfl), (Nat.le_of_ble_eq_true rfl)⟩ dX14_trace_37) (by omega) (by omega) ?_
    refine pb_zald C hU.b (i := ((((25 * y + x) * 4 + a) : Nat) : Int)) (v := .int (iZ ((bI ((bit W (lj (((25 * y + x) * 4 + a))))))))) (by omega) rfl dX14_trace_40 ?_
    refine pb_ifB_ne C dX14_trace_41 (tgt := 149) (by decide) (fun c41_ => ?_) (fun c41_ => ?_)
    · rw [lj_idx hlx hla] at c41_
      have hper := LJ_end hg hd h0 hpcl hL (by rw [he]; exact c41_)
      have hCe : C9 = crn g (x0, y0, a0) := by rw [hC, crL, if_pos c41_, hper, crn]
      refine pb_aload C dX14_trace_149 (lv_at hl 1 rfl) ?_
      exact pb_aret C (Or.inl ⟨_, rfl⟩) dX14_trace_151 (Or.inr ⟨_, rfl⟩) (⟨_, rfl, W, xa, xe, ye, ya, (by rw [← hCe, show arA g (x0, y0, a0) = ar from by rw [har, hper, arA]]; exact hOb), hU, (by rw [← hper]; exact hL), (by rw [← hper, he]; exact c41_), hFF⟩)
    · rw [lj_idx hlx hla] at c41_
      have hnb : ¬ bit W (x, y, a) = true := by rw [c41_]; exact Bool.false_ne_true
      have hC0 : C9 = crnK g (x0, y0, a0) (k + 1) := by rw [hC, crL, if_neg hnb]
      have hdk := Dk_next he
      have hlk2 := lok_Dk hg hd (k + 1)
      obtain ⟨x2, hx2e⟩ : ∃ z_ : Nat, z_ = nxx x a := ⟨_, rfl⟩
      obtain ⟨y2, hy2e⟩ : ∃ z_ : Nat, z_ = nxy y a := ⟨_, rfl⟩
      obtain ⟨a2, ha2e⟩ : ∃ z_ : Nat, z_ = nxw g x2 y2 a := ⟨_, rfl⟩
      rw [← hx2e, ← hy2e, ← ha2e] at hdk
      rw [hdk] at hlk2
      have hx2 : x2 ≤ 24 := hlk2.1
      have hy2 : y2 ≤ 24 := hlk2.2.1
      have ha2 : a2 < 4 := hlk2.2.2.1
      have hLn := LJ_s hg hd hL he hnb
      have hkb2 := LJ_b hg hd hLn hpcl
      have hCk := crnK_le g (x0, y0, a0) (k + 1)
      rw [← hC0] at hCk
      refine pb_aload_n C dX14_trace_44 rfl (lv_at hl 0 rfl) ?_
      refine pb_get C in_X14 hT (ci := 12) rfl 1 (by decide) q1306 (fun _ h9 => h9) (v := .ref (u)) rfl dX14_trace_45 ?_
      refine pb_iload C dX14_trace_48 (lv_at hl 2 rfl) ?_
      refine pb_iload C dX14_trace_50 (lv_at hl 3 rfl) ?_
      refine pb_iload C dX14_trace_52 (lv_at hl 4 rfl) ?_
      refine pb_go_x (bc' := 2 * (lC N9 - lC C9.length)) (bs' := 2 * (lS N9 - lS C9.length)) (pb_runS (rest := [.ref (u)]) C hG (met_X14_indexOf l x y a) (lw_S q1290 q1291 q86 q1292) hdX14_indexOf rfl hl.1 rfl (Nat.le_of_ble_eq_true rfl) ⟨(Nat.le_of_ble_eq_true rfl), (Nat.le_of_ble_eq_true rfl)⟩ dX14_trace_54) (by omega) (by omega) ?_
      refine pb_ic C dX14_trace_57 ?_
      have hG0ty := hG.2.2.2.1.ty
      have hUty := hU.b.ty
      refine pb_zast C (by decide +kernel) hU (i := ((((25 * y + x) * 4 + a) : Nat) : Int)) (by omega) (by omega) dX14_trace_58 fun H1_ hu_ hU => ?_
      rw [Int.toNat_natCast, wkF_set W hlx hla] at hU
      have hG := hG.kept (hu_.z (by omega))
      have hs_H1_ := hu_.1
      have hT := hT.kept (hu_.2 _ (by omega))
      have hOb := hOb.upU C.inj hG0ty hUty hu_
      obtain ⟨hzo, hO, hX, hY, h5, h6, h7⟩ := id hOb
      have hs6 := hu_.1
      have hFF := hFF.tr (hu_.f.mono (fun q _ (hq : q < H0.size ∧ q ≠ u) => hq.2))
      have hG0ty := hG.2.2.2.1.ty
      refine pb_aload C dX14_trace_59 (lv_at hl 1 rfl) ?_
      refine pb_dup C dX14_trace_61 rfl ?_
      refine pb_getN C in_X15 hO.r (ci := 13) rfl 2 (by decide) q1254 (fun _ h9 => h9) (v := .int (iZ (ar))) rfl dX14_trace_62 ?_
      refine pb_iload C dX14_trace_65 (lv_at hl 2 rfl) ?_
      refine pb_iload C dX14_trace_67 (lv_at hl 4 rfl) ?_
      refine pb_go_x (bc' := 2 * (lC N9 - lC C9.length)) (bs' := 2 * (lS N9 - lS C9.length)) (pb_runS (rest := [.int (iZ (((x : Nat) : Int))), .int (iZ (ar)), .ref (H0.size)]) C hG (met_X14_stepY l a hla) (lw_S q1293 q1294 q86 q1295) hdX14_stepY rfl hl.1 rfl (Nat.le_of_ble_eq_true rfl) ⟨(Nat.le_of_ble_eq_true rfl), (Nat.le_of_ble_eq_true rfl)⟩ dX14_trace_69) (by omega) (by omega) ?_
      refine pb_imul C dX14_trace_72 ?_
      refine pb_iadd C dX14_trace_73 ?_
      refine pb_putN C in_X15 tyX15 tyX15_ok nmX15 hO (ci := 13) rfl 2 (by decide) q1254 (fun _ h9 => h9) rfl (v := .int (iZ ((ar + (((x : Nat) : Int) * (stY a)))))) rfl rfl (Nat.le_of_ble_eq_true rfl) (by omega) dX14_trace_74 fun H2_ hu_ hO => ?_
      have hO : pb_O w H2_ (H0.size) 13 [.ref (xa), .ref (ya), .int (iZ ((ar + (((x : Nat) : Int) * (stY a)))))] := hO
      have hG := hG.kept (hu_.z (by omega))
      have hs_H2_ := hu_.1
      have hT := hT.kept (hu_.2 _ (by omega))
      have hU := hU.kept (hu_.2 _ (by omega))
      have hOb := hOb.upO C.inj hG0ty hO hu_
      obtain ⟨hzo, hO, hX, hY, h5, h6, h7⟩ := id hOb
      have hs7 : H0.size < H2_.size := by rw [hu_.1]; omega
      have hFF := hFF.tr (hu_.f.mono (fun q _ (hq : q < H0.size ∧ q ≠ u) => show q ≠ _ from by have := hq.1; omega))
      have hQ := hQ0.kept hFF
      refine pb_iload C dX14_trace_77 (lv_at hl 2 rfl) ?_
      refine pb_iload C dX14_trace_79 (lv_at hl 4 rfl) ?_
      refine pb_go_x (bc' := 2 * (lC N9 - lC C9.length)) (bs' := 2 * (lS N9 - lS C9.length)) (pb_runS (rest := [.int (iZ (((x : Nat) : Int)))]) C hG (met_X14_stepX l a hla) (lw_S q1296 q1297 q86 q1298) hdX14_stepX rfl hl.1 rfl (Nat.le_of_ble_eq_true rfl) ⟨(Nat.le_of_ble_eq_true rfl), (Nat.le_of_ble_eq_true rfl)⟩ dX14_trace_81) (by omega) (by omega) ?_
      refine pb_iadd C dX14_trace_84 ?_
      refine pb_eq (g2 := F0 m_ 85 ls [.int (iZ (((x2 : Nat) : Int)))]) (congrArg (fun z9 => F0 m_ 85 ls [.int (iZ z9)]) (show (((x : Nat) : Int) + (stX a)) = ((x2 : Nat) : Int) from (by rw [hx2e]; exact stX_nxx hg hlk))) ?_
      refine pb_istore C dX14_trace_85 hl (by decide) rfl fun ls hl => ?_
      have hl : lv_has ls 9 [(5, .int (iZ (((x2 : Nat) : Int)))), (0, .ref (t)), (4, .ref (H0.size)), (6, .int (iZ (((y : Nat) : Int)))), (7, .int (iZ (((a : Nat) : Int))))] := hl
      refine pb_iload C dX14_trace_87 (lv_at hl 3 rfl) ?_
      refine pb_iload C dX14_trace_89 (lv_at hl 4 rfl) ?_
      refine pb_go_x (bc' := 2 * (lC N9 - lC C9.length)) (bs' := 2 * (lS N9 - lS C9.length)) (pb_runS (rest := [.int (iZ (((y : Nat) : Int)))]) C hG (met_X14_stepY l a hla) (lw_S q1293 q1294 q86 q1295) hdX14_stepY rfl hl.1 rfl (Nat.le_of_ble_eq_true rfl) ⟨(Nat.le_of_ble_eq_true rfl), (Nat.le_of_ble_eq_true rfl)⟩ dX14_trace_91) (by omega) (by omega) ?_
      refine pb_iadd C dX14_trace_94 ?_
      refine pb_eq (g2 := F0 m_ 95 ls [.int (iZ (((y2 : Nat) : Int)))]) (congrArg (fun z9 => F0 m_ 95 ls [.int (iZ z9)]) (show (((y : Nat) : Int) + (stY a)) = ((y2 : Nat) : Int) from (by rw [hy2e]; exact stY_nxy hg hlk))) ?_
      refine pb_istore C dX14_trace_95 hl (by decide) rfl fun ls hl => ?_
      have hl : lv_has ls 9 [(6, .int (iZ (((y2 : Nat) : Int)))), (5, .int (iZ (((x2 : Nat) : Int)))), (0, .ref (t)), (4, .ref (H0.size)), (7, .int (iZ (((a : Nat) : Int))))] := hl
      refine pb_aload_n C dX14_trace_97 rfl (lv_at hl 2 rfl) ?_
      refine pb_iload C dX14_trace_98 (lv_at hl 1 rfl) ?_
      refine pb_iload C dX14_trace_100 (lv_at hl 0 rfl) ?_
      refine pb_iload C dX14_trace_102 (lv_at hl 4 rfl) ?_
      refine pb_go_x (bc' := 2 * (lC N9 - lC C9.length)) (bs' := 2 * (lS N9 - lS C9.length)) (pb_runV (rest := []) C hG (met_X14_nextDirection l t c u ol _ g hT hQ hg x2 y2 hx2 hy2 a hla) hT (ci := 12) rfl (lw_V q1299 q1301 qs17 q86 q1302) ⟨rfl, hdX14_nextDirection⟩ rfl hl.1 rfl (Nat.le_of_ble_eq_true rfl) ⟨(Nat.le_of_ble_eq_true rfl), (Nat.le_of_ble_eq_true rfl)⟩ dX14_trace_104) (by omega) (by omega) ?_
      refine pb_eq (g2 := F0 m_ 107 ls [.int (iZ (((a2 : Nat) : Int)))]) (congrArg (fun z9 => F0 m_ 107 ls [.int (iZ z9)]) (show (((nxw g x2 y2 a) : Nat) : Int) = ((a2 : Nat) : Int) from (by rw [ha2e]))) ?_
      refine pb_istore C dX14_trace_107 hl (by decide) rfl fun ls hl => ?_
      have hl : lv_has ls 9 [(8, .int (iZ (((a2 : Nat) : Int)))), (6, .int (iZ (((y2 : Nat) : Int)))), (5, .int (iZ (((x2 : Nat) : Int)))), (0, .ref (t)), (4, .ref (H0.size)), (7, .int (iZ (((a : Nat) : Int))))] := hl
      refine pb_iload C dX14_trace_109 (lv_at hl 0 rfl) ?_
      refine pb_iload C dX14_trace_111 (lv_at hl 5 rfl) ?_
      refine pb_icmp_eq C dX14_trace_113 (x := ((a2 : Nat) : Int)) (y := ((a : Nat) : Int)) (tgt := 142) (by decide) (by omega) (by omega) (fun c113_ => ?_) (fun c113_ => ?_)
      · refine pb_iload C dX14_trace_142 (lv_at hl 0 rfl) ?_
        refine pb_istore C dX14_trace_144 hl (by decide) rfl fun ls hl => ?_
        have hl : lv_has ls 9 [(7, .int (iZ (((a2 : Nat) : Int)))), (8, .int (iZ (((a2 : Nat) : Int)))), (6, .int (iZ (((y2 : Nat) : Int)))), (5, .int (iZ (((x2 : Nat) : Int)))), (0, .ref (t)), (4, .ref (H0.size))] := hl
        refine pb_goto C dX14_trace_146 (tgt := 27) (by decide) ?_
        exact pb_V.mono (by omega) (by omega) (ih27 _ (by omega) (k + 1) x2 y2 a2 xa xe ya ye C9 (setb W (x, y, a)) (ar + ((x : Nat) : Int) * stY a) H2_ rfl hG (LJ_s hg hd hL he hnb) hdk (by rw [hC0]; exact crL_n he hdk (Or.inl (Int.ofNat_inj.mp c113_))) (by rw [ar_step he, ← har]) hOb hU (by omega) hFF ls (lv_sub hl [4, 5, 3, 2, 0] rfl))
      · refine pb_aload_n C dX14_trace_116 rfl (lv_at hl 3 rfl) ?_
        refine pb_get C in_X14 hT (ci := 12) rfl 1 (by decide) q1306 (fun _ h9 => h9) (v := .ref (u)) rfl dX14_trace_117 ?_
        refine pb_iload C dX14_trace_120 (lv_at hl 2 rfl) ?_
        refine pb_iload C dX14_trace_122 (lv_at hl 1 rfl) ?_
        refine pb_iload C dX14_trace_124 (lv_at hl 0 rfl) ?_
        refine pb_go_x (bc' := 2 * (lC N9 - lC C9.length)) (bs' := 2 * (lS N9 - lS C9.length)) (pb_runS (rest := [.ref (u)]) C hG (met_X14_indexOf l x2 y2 a2) (lw_S q1290 q1291 q86 q1292) hdX14_indexOf rfl hl.1 rfl (Nat.le_of_ble_eq_true rfl) ⟨(Nat.le_of_ble_eq_true rfl), (Nat.le_of_ble_eq_true rfl)⟩ dX14_trace_126) (by omega) (by omega) ?_
        refine pb_zald C hU.b (i := ((((25 * y2 + x2) * 4 + a2) : Nat) : Int)) (v := .int (iZ ((bI ((bit (setb W (x, y, a)) (lj (((25 * y2 + x2) * 4 + a2))))))))) (by omega) rfl dX14_trace_129 ?_
        refine pb_ifB_ne C dX14_trace_130 (tgt := 142) (by decide) (fun c130_ => ?_) (fun c130_ => ?_)
        · rw [lj_idx hx2 ha2] at c130_
          have hnb2 := c130_
          refine pb_iload C dX14_trace_142 (lv_at hl 0 rfl) ?_
          refine pb_istore C dX14_trace_144 hl (by decide) rfl fun ls hl => ?_
          have hl : lv_has ls 9 [(7, .int (iZ (((a2 : Nat) : Int)))), (8, .int (iZ (((a2 : Nat) : Int)))), (6, .int (iZ (((y2 : Nat) : Int)))), (5, .int (iZ (((x2 : Nat) : Int)))), (0, .ref (t)), (4, .ref (H0.size))] := hl
          refine pb_goto C dX14_trace_146 (tgt := 27) (by decide) ?_
          exact pb_V.mono (by omega) (by omega) (ih27 _ (by omega) (k + 1) x2 y2 a2 xa xe ya ye C9 (setb W (x, y, a)) (ar + ((x : Nat) : Int) * stY a) H2_ rfl hG (LJ_s hg hd hL he hnb) hdk (by rw [hC0]; exact crL_n he hdk (Or.inr hnb2)) (by rw [ar_step he, ← har]) hOb hU (by omega) hFF ls (lv_sub hl [4, 5, 3, 2, 0] rfl))
        · rw [lj_idx hx2 ha2] at c130_
          have hnb2 : ¬ bit (setb W (x, y, a)) (x2, y2, a2) = true := by rw [c130_]; exact Bool.false_ne_true
          have hcc := crL_c he hdk (fun h9 : a2 = a => c113_ (congrArg (fun z : Nat => ((z : Nat) : Int)) h9)) hnb2
          have hcn2 := crL_len hg hd hLn hdk
          obtain ⟨C8, hC8⟩ : ∃ C8, C8 = C9 ++ [(x2, y2, a2)] := ⟨_, rfl⟩
          have hlc9 : C8.length = C9.length + 1 := by rw [hC8, List.length_append]; rfl
          rw [← hcc, ← hC0, ← hC8, ← hN9, hlc9] at hcn2
          have hlc8 : lC C8.length = lC (C9.length + 1) := by rw [hlc9]
          have hlc7 : lS C8.length = lS (C9.length + 1) := by rw [hlc9]
          have hcl4 := lC_le hcn2
          have hcl5 := lS_le hcn2
          have hcl6 := lC_le (n := C9.length) (m := C9.length + 1) (by omega)
          have hcl7 := lS_le (n := C9.length) (m := C9.length + 1) (by omega)
          refine pb_aload C dX14_trace_133 (lv_at hl 4 rfl) ?_
          refine pb_iload C dX14_trace_135 (lv_at hl 2 rfl) ?_
          refine pb_iload C dX14_trace_137 (lv_at hl 1 rfl) ?_
          refine pb_go_v (bc' := 2 * (lC N9 - lC C9.length) - (2 * (lC (C9.length + 1) - lC C9.length))) (bs' := 2 * (lS N9 - lS C9.length) - (2 * (lS (C9.length + 1) - lS C9.length))) (pb_runV (rest := []) C hG (met_X15_addCorner l H0.size H0.size xa xe ya ye x2 y2 a2 C9 (ar + ((x : Nat) : Int) * stY a) hzs hOb hx2 hy2 (by omega)) hO.r (ci := 13) rfl (lw_V q1264 q1265 q1266 q87 q1267) ⟨rfl, hdX15_addCorner⟩ rfl hl.1 rfl (Nat.le_of_ble_eq_true rfl) ⟨(Nat.le_of_ble_eq_true rfl), (Nat.le_of_ble_eq_true rfl)⟩ dX14_trace_139) (by omega) (by omega) (fun H_ hp_ => ?_)
          obtain ⟨xe1, ye1, hxe1, hye1, hOb, hF1⟩ := hp_
          have hs8 := hF1.1
          have hG := hG.kept (hF1.mono (fun q _ (hq : q < w.2.2.2) => Or.inl (by omega)))
          have hU := hU.kept (hF1.2 _ hU.lt (Or.inl huz))
          have hFF := hFF.tr (hF1.mono (fun q _ (hq : q < H0.size ∧ q ≠ u) => Or.inl hq.1))
          refine pb_iload C dX14_trace_142 (lv_at hl 0 rfl) ?_
          refine pb_istore C dX14_trace_144 hl (by decide) rfl fun ls hl => ?_
          have hl : lv_has ls 9 [(7, .int (iZ (((a2 : Nat) : Int)))), (8, .int (iZ (((a2 : Nat) : Int)))), (6, .int (iZ (((y2 : Nat) : Int)))), (5, .int (iZ (((x2 : Nat) : Int)))), (0, .ref (t)), (4, .ref (H0.size))] := hl
          refine pb_goto C dX14_trace_146 (tgt := 27) (by decide) ?_
          exact pb_V.mono (by omega) (by omega) (ih27 _ (by omega) (k + 1) x2 y2 a2 xa xe1 ya ye1 C8 (setb W (x, y, a)) (ar + ((x : Nat) : Int) * stY a) H_ rfl hG (LJ_s hg hd hL he hnb) hdk (by rw [hC8, hC0]; exact hcc) (by rw [ar_step he, ← har]) (by rw [hC8]; exact hOb) hU (by omega) hFF ls (lv_sub hl [4, 5, 3, 2, 0] rfl))
  refine pb_newE C in_X15 tyX15 tyX15_ok (ci := 13) rfl q1242 q1243 q87 (fs := [.null, .null, .int (iZ (0))]) (by decide) (bc' := ocC g (x0, y0, a0) - 1) (bs' := ocS g (x0, y0, a0) - 3) (by omega) (by omega) dX14_trace_0 fun a3_ H3_ ha_ hn_ hN3_ => ?_
  have hs3_ : H3_.size = H0.size + 1 := hn_.1
  have hG := hG.kept (hn_.f.mono (fun _ _ _ => trivial))
  have hU := hU.kept (hn_.2 _ hU.lt)
  have hFF := hFF.tr (hn_.f.mono (fun _ _ _ => trivial))
  obtain rfl : a3_ = H0.size := by omega
  skip
  have hN := hN3_
  refine pb_dup C dX14_trace_3 rfl ?_
  refine pb_go_v (bc' := ocC g (x0, y0, a0) - 1 - 2) (bs' := ocS g (x0, y0, a0) - 3 - 6) (pb_runIN (rest := [.ref (H0.size)]) C hG (met_X15_init l H0.size H0.size hzs (Nat.le_refl _) hN) q1244 q1245 q87 q1246 rfl hdX15_init rfl hl.1 rfl (Nat.le_of_ble_eq_true rfl) ⟨(Nat.le_of_ble_eq_true rfl), (Nat.le_of_ble_eq_true rfl)⟩ dX14_trace_4) (by omega) (by omega) (fun H_ hp_ => ?_)
  obtain ⟨ya, hya, hOb, hF1⟩ := hp_
  have hs9 := hF1.1
  have hG := hG.kept (hF1.mono (fun q _ (hq : q < w.2.2.2) => show q ≠ _ from by omega))
  have hFF := hFF.tr (hF1.mono (fun q _ (hq : q < H0.size ∧ q ≠ u) => show q ≠ _ from by omega))
  rw [hs3_] at hOb
  have hU := hU.kept (hF1.2 _ hU.lt (show u ≠ _ from by omega))
  have hlok0 : x0 ≤ 24 := hd.1
  have hlok1 : y0 ≤ 24 := hd.2.1
  have hlok2 : a0 < 4 := hd.2.2.1
  have hl1 : lC (([] : List (Nat × Nat × Nat)).length + 1) = 1 ∧ lC ([] : List (Nat × Nat × Nat)).length = 0 ∧ lS (([] : List (Nat × Nat × Nat)).length + 1) = 10 ∧ lS ([] : List (Nat × Nat × Nat)).length = 0 := ⟨rfl, rfl, rfl, rfl⟩
  have hcl1 := crL_len hg hd (LJ_00 hw16 (x0, y0, a0)) (show Dk g (x0, y0, a0) 0 = (x0, y0, a0) from rfl)
  rw [← crL_0 (g := g) h0, ← hN9] at hcl1
  obtain ⟨C1, hC1⟩ : ∃ C1, C1 = [(x0, y0, a0)] := ⟨_, rfl⟩
  rw [← hC1] at hcl1
  have hl2 : lC C1.length = 1 ∧ lS C1.length = 10 := by rw [hC1]; exact ⟨rfl, rfl⟩
  have hcl2 := lC_le hcl1
  have hcl3 := lS_le hcl1
  refine pb_astore C dX14_trace_7 hl (by decide) rfl fun ls hl => ?_
  have hl : lv_has ls 9 [(4, .ref (H0.size)), (0, .ref (t)), (1, .int (iZ (((x0 : Nat) : Int)))), (2, .int (iZ (((y0 : Nat) : Int)))), (3, .int (iZ (((a0 : Nat) : Int))))] := hl
  refine pb_iload_n C dX14_trace_9 rfl (lv_at hl 2 rfl) ?_
  refine pb_istore C dX14_trace_10 hl (by decide) rfl fun ls hl => ?_
  have hl : lv_has ls 9 [(5, .int (iZ (((x0 : Nat) : Int)))), (4, .ref (H0.size)), (0, .ref (t)), (1, .int (iZ (((x0 : Nat) : Int)))), (2, .int (iZ (((y0 : Nat) : Int)))), (3, .int (iZ (((a0 : Nat) : Int))))] := hl
  refine pb_iload_n C dX14_trace_12 rfl (lv_at hl 4 rfl) ?_
  refine pb_istore C dX14_trace_13 hl (by decide) rfl fun ls hl => ?_
  have hl : lv_has ls 9 [(6, .int (iZ (((y0 : Nat) : Int)))), (5, .int (iZ (((x0 : Nat) : Int)))), (4, .ref (H0.size)), (0, .ref (t)), (1, .int (iZ (((x0 : Nat) : Int)))), (2, .int (iZ (((y0 : Nat) : Int)))), (3, .int (iZ (((a0 : Nat) : Int))))] := hl
  refine pb_iload_n C dX14_trace_15 rfl (lv_at hl 6 rfl) ?_
  refine pb_istore C dX14_trace_16 hl (by decide) rfl fun ls hl => ?_
  have hl : lv_has ls 9 [(7, .int (iZ (((a0 : Nat) : Int)))), (6, .int (iZ (((y0 : Nat) : Int)))), (5, .int (iZ (((x0 : Nat) : Int)))), (4, .ref (H0.size)), (0, .ref (t)), (1, .int (iZ (((x0 : Nat) : Int)))), (2, .int (iZ (((y0 : Nat) : Int)))), (3, .int (iZ (((a0 : Nat) : Int))))] := hl
  refine pb_aload C dX14_trace_18 (lv_at hl 3 rfl) ?_
  refine pb_iload C dX14_trace_20 (lv_at hl 2 rfl) ?_
  refine pb_iload C dX14_trace_22 (lv_at hl 1 rfl) ?_
  obtain ⟨hzo, hO, hX, hY, h5, h6, h7⟩ := id hOb
  refine pb_go_v (bc' := ocC g (x0, y0, a0) - 1 - 2 - (2 * (lC (([] : List (Nat × Nat × Nat)).length + 1) - lC ([] : List (Nat × Nat × Nat)).length))) (bs' := ocS g (x0, y0, a0) - 3 - 6 - (2 * (lS (([] : List (Nat × Nat × Nat)).length + 1) - lS ([] : List (Nat × Nat × Nat)).length))) (pb_runV (rest := []) C hG (met_X15_addCorner l H0.size H0.size (H0.size + 1) (w.2.2.1 0) ya (w.2.2.1 0) x0 y0 a0 [] 0 hzs hOb hlok0 hlok1 (by decide)) hO.r (ci := 13) rfl (lw_V q1264 q1265 q1266 q87 q1267) ⟨rfl, hdX15_addCorner⟩ rfl hl.1 rfl (Nat.le_of_ble_eq_true rfl) ⟨(Nat.le_of_ble_eq_true rfl), (Nat.le_of_ble_eq_true rfl)⟩ dX14_trace_24) (by omega) (by omega) (fun H_ hp_ => ?_)
  obtain ⟨xe1, ye1, hxe1, hye1, hOb, hF1⟩ := hp_
  have hs8 := hF1.1
  have hG := hG.kept (hF1.mono (fun q _ (hq : q < w.2.2.2) => Or.inl (by omega)))
  have hU := hU.kept (hF1.2 _ hU.lt (Or.inl huz))
  have hFF := hFF.tr (hF1.mono (fun q _ (hq : q < H0.size ∧ q ≠ u) => Or.inl hq.1))
  exact pb_V.mono (by omega) (by omega) (L27 _ 0 x0 y0 a0 (H0.size + 1) xe1 ya ye1 C1 W0 0 H_ rfl hG (LJ_00 hw16 _) rfl (hC1.trans (crL_0 h0)) rfl (by rw [hC1]; exact hOb) hU (by omega) hFF ls (lv_sub hl [4, 3, 2, 1, 0] rfl))

set_option maxHeartbeats 2000000 in
theorem met_X14_init {w : pb_W} (l : Launch) {H0 : Heap} (z t a : Nat) (P : Nat → Prop) (L : List Bnd) (hz : w.2.2.2 ≤ t) (hR0 : Rg w H0 P a L) (hPt : ¬ P t) (hT : pb_O w H0 t 12 [.null, .null, .null]) (hEr : ∀ y i, 0 ≤ eE (rowL L y) i ∧ eE (rowL L y) i ≤ 24) (hLe : ∀ y k, 2 * k + 1 < (rowL L y).length → eE (rowL L y) (2 * k) ≤ eE (rowL L y) (2 * k + 1)) : pb_M w l yX14_init cX14_init 5 none 9 (28 + 3750 + lC 312) (2624 + 22500 + lS 312) [.ref (t), .ref (a)] H0 (pb_qv (fun H1 => ∃ g, g = (ofG L 24) ∧ Tq w H1 (fun q => q = t ∨ (H0.size ≤ q ∧ q < H1.size)) t g ∧ pb_F (fun q => q < H0.size ∧ q ≠ t) H0 H1)) := by
  refine pb_of (by decide +kernel) (Nat.le_of_ble_eq_true rfl) ?_
  intro p_ e_ s_ m_ ar_ bl_ me_ co_ ls C hh hG hl
  have hl : lv_has ls 5 [(0, .ref (t)), (1, .ref (a))] := hl
  have hzs := hG.1
  have hg0 := hG.2.2.1
  have htl := hT.lt
  have hR : Rg w H0 (fun q => q < H0.size ∧ q ≠ t) a L := hR0.mono (fun q h9 h8 => ⟨h9, fun e => hPt (e ▸ h8)⟩)
  have hFF : pb_F (fun q => q < H0.size ∧ q ≠ t) H0 H0 := pb_F.rf
  have L34 : ∀ (n_ : Nat) (j e9 c z1 : Nat) (g : Nat → Nat) (V : List Nat) (W : Nat → Nat) (H : Heap), 2500 - j = n_ → (pb_G w s_ H) → (g = (ofG L 24)) → (gok g) → (j ≤ 2500) → (H0.size + 2 ≤ z1 ∧ z1 ≤ H.size) → (TJ g j W) → (Cq w H (fun q => q < z1 ∧ H0.size + 1 < q) c g) → (pb_O w H t 12 [.ref c, .ref H0.size, .ref (H0.size + 1)]) → (pb_A w H H0.size 1 2500 (wkF W)) → (Lb w H (H0.size + 1) (H0.size + 1) e9 V) → (OL w H (fun q => z1 ≤ q ∧ q ≠ e9) g V (outs g j)) → (e9 < w.2.2.2 ∨ z1 ≤ e9) → (pb_F (fun q => q < H0.size ∧ q ≠ t) H0 H) → ∀ (ls : Array Slot), lv_has ls 5 [(0, .ref (t)), (2, .int (iZ (((j : Nat) : Int))))] → pb_V w.2.2.2 p_ l e_ (pb_rm 9 (28 + 3750 + lC 312) (2624 + 22500 + lS 312)) s_ m_ ar_ bl_ me_ co_ H ((3750 - trC g (outs g j)) + (lC 312 - lC (outs g j).length)) ((22500 - trS g (outs g j)) + (lS 312 - lS (outs g j).length)) (pb_E w bl_ ar_ s_ (28 + 3750 + lC 312) (2624 + 22500 + lS 312) (pb_qv (fun H1 => ∃ g, g = (ofG L 24) ∧ Tq w H1 (fun q => q = t ∨ (H0.size ≤ q ∧ q < H1.size)) t g ∧ pb_F (fun q => q < H0.size ∧ q ≠ t) H0 H1))) (F0 m_ 34 ls []) := by
    intro n_
    induction n_ using Nat.strongRecOn with
    | _ n_ ih34 =>
    intro j e9 c z1 g V W H hm_ hG hge hg hj hz1 hTJ hQ hT hU hLb hOL he9 hFF ls hl
    have htr := TJ_cost hTJ
    have hlen := TJ_len hTJ
    have hl2 := lC_le hlen
    have hl3 := lS_le hlen
    have huz := hU.lt
    refine pb_iload_n C dX14_init_34 rfl (lv_at hl 1 rfl) ?_
    refine pb_sip C dX14_init_35 (by decide) ?_
    refine pb_icmp_ge C dX14_init_38 (x := ((j : Nat) : Int)) (y := 2500) (tgt := 104) (by decide) (by omega) (by omega) (fun c38_ => ?_) (fun c38_ => ?_)
    · exact pb_vret C dX14_init_104 (⟨rfl, g, hge, ⟨c, H0.size, H0.size + 1, V, Or.inl rfl, hT.r, (hLb.r (by rw [hOL.1]; omega)).mono (fun q h9 h8 => Or.inr ⟨by have := h8.1; omega, h9⟩), by rw [show 2500 = j from by omega]; exact hOL.mono (fun q h9 h8 => Or.inr ⟨by have := h8.1; omega, h9⟩)⟩, hFF⟩)
    · refine pb_iload_n C dX14_init_41 rfl (lv_at hl 1 rfl) ?_
      refine pb_ic C dX14_init_42 ?_
      refine pb_idiv C dX14_init_43 (x := ((j : Nat) : Int)) (y := 4) (by omega) (by omega) (by omega) ?_
      refine pb_bip C dX14_init_44 (by decide) ?_
      refine pb_irem C dX14_init_46 (x := (((j / 4) : Nat) : Int)) (y := 25) (by omega) (by omega) (by omega) ?_
      refine pb_istore_n C dX14_init_47 rfl hl (by decide) rfl fun ls hl => ?_
      have hl : lv_has ls 5 [(3, .int (iZ (((((j / 4) % 25) : Nat) : Int)))), (0, .ref (t)), (2, .int (iZ (((j : Nat) : Int))))] := hl
      refine pb_iload_n C dX14_init_48 rfl (lv_at hl 2 rfl) ?_
      refine pb_ic C dX14_init_49 ?_
      refine pb_idiv C dX14_init_50 (x := ((j : Nat) : Int)) (y := 4) (by omega) (by omega) (by omega) ?_
      refine pb_bip C dX14_init_51 (by decide) ?_
      refine pb_idiv C dX14_init_53 (x := (((j / 4) : Nat) : Int)) (y := 25) (by omega) (by omega) (by omega) ?_
      refine pb_istore C dX14_init_54 hl (by decide) rfl fun ls hl => ?_
      have hl : lv_has ls 5 [(4, .int (iZ (((((j / 4) / 25) : Nat) : Int)))), (3, .int (iZ (((((j / 4) % 25) : Nat) : Int)))), (0, .ref (t)), (2, .int (iZ (((j : Nat) : Int))))] := hl
      refine pb_aload_n C dX14_init_56 rfl (lv_at hl 2 rfl) ?_
      refine pb_get C in_X14 hT.r (ci := 12) rfl 1 (by decide) q1306 (fun _ h9 => h9) (v := .ref (H0.size)) rfl dX14_init_57 ?_
      refine pb_iload_n C dX14_init_60 rfl (lv_at hl 3 rfl) ?_
      refine pb_zald C hU.b (i := ((j : Nat) : Int)) (v := .int (iZ ((bI ((bit W (lj j))))))) (by omega) rfl dX14_init_61 ?_
      refine pb_ifB_ne C dX14_init_62 (tgt := 98) (by decide) (fun c62_ => ?_) (fun c62_ => ?_)
      · have hsk := TJ_skip hTJ (lj_rng (by omega)) (fun h9 => h9.2 c62_)
        have hsk2 : (trC g (outs g (j + 1)) = trC g (outs g j) ∧ trS g (outs g (j + 1)) = trS g (outs g j)) ∧ lC (outs g (j + 1)).length = lC (outs g j).length ∧ lS (outs g (j + 1)).length = lS (outs g j).length := by rw [hsk.2]; exact ⟨⟨rfl, rfl⟩, rfl, rfl⟩
        refine pb_iinc C dX14_init_98 hl (j := 3) (x := (((j : Nat) : Int))) rfl (by decide) rfl fun ls hl => ?_
        have hl : lv_has ls 5 [(2, .int (iZ ((((j + 1) : Nat) : Int)))), (4, .int (iZ (((((j / 4) / 25) : Nat) : Int)))), (3, .int (iZ (((((j / 4) % 25) : Nat) : Int)))), (0, .ref (t))] := hl
        refine pb_goto C dX14_init_101 (tgt := 34) (by decide) ?_
        exact pb_V.mono (by omega) (by omega) (ih34 _ (by omega) (j + 1) e9 c z1 g V W H rfl hG hge hg (by omega) (by omega) hsk.1 hQ hT hU hLb (by rw [hsk.2]; exact hOL) he9 hFF ls (lv_sub hl [3, 0] rfl))
      · refine pb_aload_n C dX14_init_65 rfl (lv_at hl 2 rfl) ?_
        refine pb_iload_n C dX14_init_66 rfl (lv_at hl 1 rfl) ?_
        refine pb_iload C dX14_init_67 (lv_at hl 0 rfl) ?_
        refine pb_iload_n C dX14_init_69 rfl (lv_at hl 3 rfl) ?_
        refine pb_ic C dX14_init_70 ?_
        refine pb_irem C dX14_init_71 (x := ((j : Nat) : Int)) (y := 4) (by omega) (by omega) (by omega) ?_
        refine pb_go_x (bc' := (3750 - trC g (outs g j)) + (lC 312 - lC (outs g j).length)) (bs' := (22500 - trS g (outs g j)) + (lS 312 - lS (outs g j).length)) (pb_runV (rest := []) C hG (met_X14_hasLine l t c H0.size (H0.size + 1) _ g hT.r hQ hg (((j / 4) % 25)) (((j / 4) / 25)) (by omega) (by omega) (j % 4) (by omega)) hT.r (ci := 12) rfl (lw_V q1233 q1235 qs15 q86 q1236) ⟨rfl, hdX14_hasLine⟩ rfl hl.1 rfl (Nat.le_of_ble_eq_true rfl) ⟨(Nat.le_of_ble_eq_true rfl), (Nat.le_of_ble_eq_true rfl)⟩ dX14_init_72) (by omega) (by omega) ?_
        refine pb_ifB_eq C dX14_init_75 (tgt := 98) (by decide) (fun c75_ => ?_) (fun c75_ => ?_)
        · have hsk := TJ_skip hTJ (lj_rng (by omega)) (fun h9 => by have h8 := h9.1.2.2.2; rw [show ldr g ((lj j).1 : Nat) ((lj j).2.1 : Nat) (lj j).2.2 = false from c75_] at h8; cases h8)
          have hsk2 : (trC g (outs g (j + 1)) = trC g (outs g j) ∧ trS g (outs g (j + 1)) = trS g (outs g j)) ∧ lC (outs g (j + 1)).length = lC (outs g j).length ∧ lS (outs g (j + 1)).length = lS (outs g j).length := by rw [hsk.2]; exact ⟨⟨rfl, rfl⟩, rfl, rfl⟩
          refine pb_iinc C dX14_init_98 hl (j := 3) (x := (((j : Nat) : Int))) rfl (by decide) rfl fun ls hl => ?_
          have hl : lv_has ls 5 [(2, .int (iZ ((((j + 1) : Nat) : Int)))), (4, .int (iZ (((((j / 4) / 25) : Nat) : Int)))), (3, .int (iZ (((((j / 4) % 25) : Nat) : Int)))), (0, .ref (t))] := hl
          refine pb_goto C dX14_init_101 (tgt := 34) (by decide) ?_
          exact pb_V.mono (by omega) (by omega) (ih34 _ (by omega) (j + 1) e9 c z1 g V W H rfl hG hge hg (by omega) (by omega) hsk.1 hQ hT hU hLb (by rw [hsk.2]; exact hOL) he9 hFF ls (lv_sub hl [3, 0] rfl))
        · have hoc9 : ocC g (j / 4 % 25, j / 4 / 25, j % 4) = ocC g (lj j) ∧ ocS g (j / 4 % 25, j / 4 / 25, j % 4) = ocS g (lj j) := ⟨rfl, rfl⟩
          have hjr := lj_rng (i := j) (by omega)
          have hlokj : lok g (lj j) := ⟨hjr.1, hjr.2.1, hjr.2.2, c75_⟩
          have hnbj : ¬ bit W (lj j) = true := by rw [c62_]; exact Bool.false_ne_true
          obtain ⟨hne, hnc, hns, hnl⟩ := TJ_next hg hTJ (by omega) hlokj hnbj
          obtain ⟨hw16, hpcl, -⟩ := TJ_pcl hTJ
          have hlc4 := lC_le hnl
          have hlc5 := lS_le hnl
          have hlc6 := lC_le (n := (outs g j).length) (m := (outs g j).length + 1) (by omega)
          have hlc7 := lS_le (n := (outs g j).length) (m := (outs g j).length + 1) (by omega)
          refine pb_aload_n C dX14_init_78 rfl (lv_at hl 2 rfl) ?_
          refine pb_get C in_X14 hT.r (ci := 12) rfl 2 (by decide) q1307 (fun _ h9 => h9) (v := .ref ((H0.size + 1))) rfl dX14_init_79 ?_
          refine pb_aload_n C dX14_init_82 rfl (lv_at hl 2 rfl) ?_
          refine pb_iload_n C dX14_init_83 rfl (lv_at hl 1 rfl) ?_
          refine pb_iload C dX14_init_84 (lv_at hl 0 rfl) ?_
          refine pb_iload_n C dX14_init_86 rfl (lv_at hl 3 rfl) ?_
          refine pb_ic C dX14_init_87 ?_
          refine pb_irem C dX14_init_88 (x := ((j : Nat) : Int)) (y := 4) (by omega) (by omega) (by omega) ?_
          have he9O : e9 < H.size := hLb.elt (by omega)
          refine pb_go_r (bc' := (3750 - trC g (outs g j)) + (lC 312 - lC (outs g j).length) - (ocC g (lj j))) (bs' := (22500 - trS g (outs g j)) + (lS 312 - lS (outs g j).length) - (ocS g (lj j))) (pb_runV (rest := [.ref ((H0.size + 1))]) C hG (met_X14_trace l t c H0.size (H0.size + 1) g hg hT.r (by omega) (hQ.mono (fun q h9 h8 => ⟨h9, show q ≠ H0.size from by have := h8.2; omega⟩)) W hU (by omega) (j / 4 % 25) (j / 4 / 25) (j % 4) hlokj hnbj hpcl hw16) hT.r (ci := 12) rfl (lw_V q1238 q1240 qs16 q86 q1241) ⟨rfl, hdX14_trace⟩ rfl hl.1 rfl (Nat.le_of_ble_eq_true rfl) ⟨(Nat.le_of_ble_eq_true rfl), (Nat.le_of_ble_eq_true rfl)⟩ dX14_init_89) (by omega) (by omega) (fun o H_ hp_ => ?_)
          obtain ⟨W1, xa, xe, ye, ya, hOb, hU1, hL1, hb1, hF1⟩ := hp_
          have hs7 := hF1.1
          obtain ⟨hTJ1, -, -⟩ := TJ_end hg hTJ rfl hlokj hnbj hL1 hb1
          have hcle := (crn_lt hg hlokj hpcl hnbj hw16).1
          have hOg : Og w H_ (fun q => H.size ≤ q ∧ q < H_.size) o (crn g (lj j)) (arA g (lj j)) := hOb.g (Nat.le_trans hcle (by decide))
          have hoz := hOb.1
          have hol := hOb.2.1.lt
          have hG := hG.kept (hF1.mono (fun q _ (hq : q < w.2.2.2) => ⟨show q < _ from by omega, show q ≠ _ from by omega⟩))
          have hFF := hFF.tr (hF1.mono (fun q hq9 (hq : q < H0.size ∧ q ≠ t) => ⟨hq9, show q ≠ _ from by have := hq.1; omega⟩))
          have hQ := hQ.kept (hF1.mono (fun q hq9 hq => ⟨hq9, show q ≠ _ from by have := hq.2; omega⟩))
          have hT := hT.kept (hF1.2 _ hT.lt ⟨hT.lt, show t ≠ _ from by omega⟩)
          have hLb := hLb.kept (hF1.2 _ hLb.2.1.lt ⟨hLb.2.1.lt, show H0.size + 1 ≠ _ from by omega⟩) (fun h9 h8 => hF1.2 _ h8 ⟨h8, show e9 ≠ _ from by omega⟩)
          have hOL := hOL.kept (hF1.mono (fun q hq9 hq => ⟨hq9, show q ≠ _ from by have := hq.1; omega⟩))
          have hU := hU1
          have hoel : pb_El w H_ o := ⟨13, _, _, hOb.2.1.r, rfl, q2149⟩
          obtain ⟨fsl_, hLo⟩ := hLb.o
          have he9H : e9 < H_.size := hLb.elt (by omega)
          have he9o : e9 < H.size := he9O
          have hVl := hOL.1
          have h9 := met_J2_add l (H0.size + 1) (H0.size + 1) e9 o V (by omega) hLb hoel (show o ≠ _ from by omega) hOL.el (by omega)
          rw [hVl] at h9
          refine pb_go_i (bc' := (3750 - trC g (outs g j)) + (lC 312 - lC (outs g j).length) - (ocC g (lj j)) - (lC ((outs g j).length + 1) - lC (outs g j).length)) (bs' := (22500 - trS g (outs g j)) + (lS 312 - lS (outs g j).length) - (ocS g (lj j)) - (lS ((outs g j).length + 1) - lS (outs g j).length)) (pb_runF (n := 1) (rest := []) C hG (x := ⟨"java/util/List", "add", "(Ljava/lang/Object;)Z"⟩) (h9) hLo (ci := 15) rfl (by decide) q1304 q150 q152 q54 q154 (by decide +kernel) rfl hl.1 rfl (Nat.le_of_ble_eq_true rfl) ⟨(Nat.le_of_ble_eq_true rfl), (Nat.le_of_ble_eq_true rfl)⟩ dX14_init_92) (by omega) (by omega) (fun z_ H2 hp_ => ?_)
          obtain ⟨e1, he1, hLb, hF1⟩ := hp_
          have hs6 := hF1.1
          have hOg : Og w H_ (fun q => H.size ≤ q ∧ q < H_.size) o (crn g (lj j)) (arA g (lj j)) := hOg
          have hOg2 := (hOg.mono (P' := fun q => z1 ≤ q ∧ q ≠ e1 ∧ q ≠ e9 ∧ q ≠ H0.size + 1) (fun q h9 h8 => ⟨by omega, by omega, by omega, by omega⟩)).kept (hF1.mono (fun q _ hq => Or.inr ⟨hq.2.2.2, hq.2.2.1⟩))
          have hOL2 := (hOL.mono (P' := fun q => z1 ≤ q ∧ q ≠ e1 ∧ q ≠ e9 ∧ q ≠ H0.size + 1) (fun q h9 h8 => ⟨h8.1, (by have := h8.1; have := h8.2; omega), h8.2, by have := h8.1; omega⟩)).kept (hF1.mono (fun q _ hq => Or.inr ⟨hq.2.2.2, hq.2.2.1⟩))
          have hOL3 := (hOL2.mono (P' := (fun q => z1 ≤ q ∧ q ≠ e1)) (fun q h9 h8 => ⟨h8.1, h8.2.1⟩)).app (hOg2.mono (P' := (fun q => z1 ≤ q ∧ q ≠ e1)) (fun q h9 h8 => ⟨h8.1, h8.2.1⟩))
          rw [← hne] at hOL3
          have hOL := hOL3
          have hG := hG.kept (hF1.mono (fun q _ (hq : q < w.2.2.2) => Or.inl (by omega)))
          have hU := hU.kept (hF1.2 _ hU.lt (Or.inl (by omega)))
          have hT := hT.kept (hF1.2 _ hT.lt (Or.inl (by omega)))
          have hFF := hFF.tr (hF1.mono (fun q _ (hq : q < H0.size ∧ q ≠ t) => Or.inl (by have := hq.1; omega)))
          have hQ := hQ.kept (hF1.mono (fun q _ hq => Or.inr ⟨by have := hq.2; omega, by have := hq.1; have := hq.2; omega⟩))
          have he9 : e1 < w.2.2.2 ∨ z1 ≤ e1 := by omega
          have hb9 : trC g (outs g (j + 1)) = trC g (outs g j) + ocC g (lj j) ∧ trS g (outs g (j + 1)) = trS g (outs g j) + ocS g (lj j) ∧ (outs g (j + 1)).length = (outs g j).length + 1 := by rw [hne, trC_app, trS_app, List.length_append]; exact ⟨rfl, rfl, rfl⟩
          have hb8 : lC (outs g (j + 1)).length = lC ((outs g j).length + 1) ∧ lS (outs g (j + 1)).length = lS ((outs g j).length + 1) := by rw [hb9.2.2]; exact ⟨rfl, rfl⟩
          refine pb_pop C dX14_init_97 rfl ?_
          refine pb_iinc C dX14_init_98 hl (j := 3) (x := (((j : Nat) : Int))) rfl (by decide) rfl fun ls hl => ?_
          have hl : lv_has ls 5 [(2, .int (iZ ((((j + 1) : Nat) : Int)))), (4, .int (iZ (((((j / 4) / 25) : Nat) : Int)))), (3, .int (iZ (((((j / 4) % 25) : Nat) : Int)))), (0, .ref (t))] := hl
          refine pb_goto C dX14_init_101 (tgt := 34) (by decide) ?_
          exact pb_V.mono (by omega) (by omega) (ih34 _ (by omega) (j + 1) e1 c z1 g (V ++ [o]) W1 H2 rfl hG hge hg (by omega) (by omega) hTJ1 hQ hT hU hLb hOL he9 hFF ls (lv_sub hl [3, 0] rfl))
  refine pb_aload_n C dX14_init_0 rfl (lv_at hl 0 rfl) ?_
  refine pb_objInit C q1229 q99 q100 hl.1 ⟨(Nat.le_of_ble_eq_true rfl), (Nat.le_of_ble_eq_true rfl)⟩ dX14_init_1 ?_
  refine pb_aload_n C dX14_init_4 rfl (lv_at hl 0 rfl) ?_
  refine pb_sip C dX14_init_5 (by decide) ?_
  refine pb_newaE C 1 (by decide) (atype := .boolean) rfl q1263 (n := 2500) (by omega) rfl (bc' := 28 + 3750 + lC 312 - 1) (bs' := 2624 + 22500 + lS 312 - 2500) (by omega) (by omega) dX14_init_8 fun a1_ H1_ ha_ hn_ hN1_ => ?_
  have hs1_ : H1_.size = H0.size + 1 := hn_.1
  have hG := hG.kept (hn_.f.mono (fun _ _ _ => trivial))
  have hT := hT.kept (hn_.2 _ hT.lt)
  have hFF := hFF.tr (hn_.f.mono (fun _ _ _ => trivial))
  obtain rfl : a1_ = H0.size := by omega
  skip
  have hU := hN1_
  have hU : pb_A w H1_ (H0.size) 1 2500 (fun _ => .int (iZ (0))) := hU
  refine pb_putF C in_X14 tyX14 tyX14_ok nmX14 hT (ci := 12) rfl 1 (by decide) q1306 (fun _ h9 => h9) rfl rfl rfl (v := .ref (H0.size)) rfl rfl (Nat.le_of_ble_eq_true rfl) (by omega) dX14_init_10 fun H2_ hu_ hT => ?_
  have hT : pb_O w H2_ (t) 12 [.null, .ref (H0.size), .null] := hT
  have hG := hG.kept (hu_.z (by omega))
  have hs_H2_ := hu_.1
  have hU := hU.kept (hu_.2 _ (by omega))
  have hFF := hFF.tr (hu_.f.mono (fun q _ (hq : q < H0.size ∧ q ≠ t) => show q ≠ _ from by have := hq.1; have := hq.2; omega))
  refine pb_aload_n C dX14_init_13 rfl (lv_at hl 0 rfl) ?_
  refine pb_newE C in_J2 tyJ2 tyJ2_ok (ci := 15) rfl q1230 q102 q54 (fs := [.int (iZ (0)), .null, .int (iZ (0))]) (by decide) (bc' := 28 + 3750 + lC 312 - 1 - 1) (bs' := 2624 + 22500 + lS 312 - 2500 - 3) (by omega) (by omega) dX14_init_14 fun a3_ H3_ ha_ hn_ hN3_ => ?_
  have hs3_ : H3_.size = H2_.size + 1 := hn_.1
  have hG := hG.kept (hn_.f.mono (fun _ _ _ => trivial))
  have hT := hT.kept (hn_.2 _ hT.lt)
  have hU := hU.kept (hn_.2 _ hU.lt)
  have hFF := hFF.tr (hn_.f.mono (fun _ _ _ => trivial))
  obtain rfl : a3_ = (H0.size + 1) := by omega
  skip
  have hN := hN3_
  refine pb_dup C dX14_init_17 rfl ?_
  refine pb_go_v (bc' := 28 + 3750 + lC 312 - 1 - 1) (bs' := 2624 + 22500 + lS 312 - 2500 - 3) (pb_runI (rest := [.ref ((H0.size + 1)), .ref (t)]) C hG (met_J2_init l (H0.size + 1) (H0.size + 1) (by omega) (Nat.le_refl _) hN) q1231 q104 q54 q105 rfl hdJ2_init rfl hl.1 rfl (Nat.le_of_ble_eq_true rfl) ⟨(Nat.le_of_ble_eq_true rfl), (Nat.le_of_ble_eq_true rfl)⟩ dX14_init_18) (by omega) (by omega) (fun H_ hp_ => ?_)
  obtain ⟨hLb, hF1⟩ := hp_
  have hs9 := hF1.1
  have hG := hG.kept (hF1.mono (fun q _ (hq : q < w.2.2.2) => show q ≠ _ from by omega))
  have hT := hT.kept (hF1.2 _ hT.lt (show t ≠ _ from by omega))
  have hU := hU.kept (hF1.2 _ hU.lt (show H0.size ≠ _ from by omega))
  have hFF := hFF.tr (hF1.mono (fun q _ (hq : q < H0.size ∧ q ≠ t) => show q ≠ _ from by have := hq.1; omega))
  refine pb_putF C in_X14 tyX14 tyX14_ok nmX14 hT (ci := 12) rfl 2 (by decide) q1307 (fun _ h9 => h9) rfl rfl rfl (v := .ref ((H0.size + 1))) rfl rfl (Nat.le_of_ble_eq_true rfl) (by omega) dX14_init_21 fun H4_ hu_ hT => ?_
  have hT : pb_O w H4_ (t) 12 [.null, .ref (H0.size), .ref ((H0.size + 1))] := hT
  have hG := hG.kept (hu_.z (by omega))
  have hs_H4_ := hu_.1
  have hU := hU.kept (hu_.2 _ (by omega))
  have hLb := hLb.kept (hu_.2 _ (show H0.size + 1 ≠ t from by omega)) (fun _ _ => hu_.2 _ (show w.2.2.1 0 ≠ t from by omega))
  have hFF := hFF.tr (hu_.f.mono (fun q _ (hq : q < H0.size ∧ q ≠ t) => show q ≠ _ from by have := hq.1; have := hq.2; omega))
  refine pb_aload_n C dX14_init_24 rfl (lv_at hl 0 rfl) ?_
  refine pb_aload_n C dX14_init_25 rfl (lv_at hl 1 rfl) ?_
  refine pb_go_r (bc' := 28 + 3750 + lC 312 - 1 - 1 - 26) (bs' := 2624 + 22500 + lS 312 - 2500 - 3 - 121) (pb_runS (rest := [.ref (t)]) C hG (met_X12_of l a _ L (hR.kept hFF) hEr hLe) (lw_S q1232 q972 q82 q973) hdX12_of rfl hl.1 rfl (Nat.le_of_ble_eq_true rfl) ⟨(Nat.le_of_ble_eq_true rfl), (Nat.le_of_ble_eq_true rfl)⟩ dX14_init_26) (by omega) (by omega) (fun c H_ hp_ => ?_)
  obtain ⟨hC, hF1⟩ := hp_
  have hs8 := hF1.1
  have hcz := hC.1
  have hclt := hC.2.2.1.lt
  have hrlt := hC.2.2.2.1.lt
  have hG := hG.kept (hF1.mono (fun q _ (hq : q < w.2.2.2) => show q < _ from by omega))
  have hT := hT.kept (hF1.2 _ hT.lt (show t < _ from by omega))
  have hU := hU.kept (hF1.2 _ hU.lt (show H0.size < _ from by omega))
  have hLb := hLb.kept (hF1.2 _ hLb.2.1.lt hLb.2.1.lt) (fun _ h => hF1.2 _ h h)
  have hFF := hFF.tr (hF1.mono (fun q _ (hq : q < H0.size ∧ q ≠ t) => show q < _ from by have := hq.1; omega))
  refine pb_putF C in_X14 tyX14 tyX14_ok nmX14 hT (ci := 12) rfl 0 (by decide) q1305 (fun _ h9 => h9) rfl rfl rfl (v := .ref (c)) rfl rfl (Nat.le_of_ble_eq_true rfl) (by omega) dX14_init_29 fun H5_ hu_ hT => ?_
  have hT : pb_O w H5_ (t) 12 [.ref (c), .ref (H0.size), .ref ((H0.size + 1))] := hT
  have hG := hG.kept (hu_.z (by omega))
  have hs_H5_ := hu_.1
  have hU := hU.kept (hu_.2 _ (by omega))
  have hLb := hLb.kept (hu_.2 _ (show H0.size + 1 ≠ t from by omega)) (fun _ _ => hu_.2 _ (show w.2.2.1 0 ≠ t from by omega))
  have hC := hC.kq hu_.f (show c ≠ t from by omega) (show _ ≠ t from by omega)
  have hFF := hFF.tr (hu_.f.mono (fun q _ (hq : q < H0.size ∧ q ≠ t) => show q ≠ _ from by have := hq.1; have := hq.2; omega))
  obtain ⟨g, hge⟩ : ∃ g, g = (ofG L 24) := ⟨_, rfl⟩
  rw [← hge] at hC
  have hg := hC.ok
  obtain ⟨z1, hz1⟩ : ∃ z_, z_ = H5_.size := ⟨_, rfl⟩
  have hQ : Cq w H5_ (fun q => q < z1 ∧ H0.size + 1 < q) c g := by
    refine hC.q.mono (fun q h9 h8 => ?_)
    rcases h8 with h8 | h8
    · subst h8; omega
    · subst h8; omega
  refine pb_ic C dX14_init_32 ?_
  refine pb_istore_n C dX14_init_33 rfl hl (by decide) rfl fun ls hl => ?_
  have hl : lv_has ls 5 [(2, .int (iZ (0))), (0, .ref (t)), (1, .ref (a))] := hl
  exact pb_V.mono (by omega) (by omega) (L34 _ 0 (w.2.2.1 0) c z1 g ([]) (fun _ => 0) H5_ rfl hG hge hg (by omega) (by omega) (TJ_0 g) hQ hT (by rw [wkF_0]; exact hU) hLb (OL.nil w _ _ g) (Or.inl (by omega)) hFF ls (lv_sub hl [1, 0] rfl))

