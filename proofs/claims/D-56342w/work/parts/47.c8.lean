set_option maxRecDepth 100000
set_option maxHeartbeats 1000000 in
theorem met_X2_rectangle {w : pb_W} (l : Launch) {H0 : Heap} (l_ b_ r_ t_ : Int) (hl_ : -900 ≤ l_ ∧ l_ ≤ 900) (hb_ : -900 ≤ b_ ∧ b_ ≤ 900) (hr_ : -900 ≤ r_ ∧ r_ ≤ 900) (ht_ : -900 ≤ t_ ∧ t_ ≤ 900) : pb_M w l yX2_rectangle cX2_rectangle 6 (some (.object "PolygonBoard$Region")) 8 (6) (27) [.int (iZ (l_)), .int (iZ (b_)), .int (iZ (r_)), .int (iZ (t_))] H0 (pb_qr (fun r H1 => Rb w H1 H0.size r (recF l_ b_ r_ t_) ∧ pb_F (fun q => q < H0.size) H0 H1)) := by
  refine pb_of (by decide +kernel) (Nat.le_of_ble_eq_true rfl) ?_
  intro p_ e_ s_ m_ ar_ bl_ me_ co_ ls C hh hG hl
  have hl : lv_has ls 6 [(0, .int (iZ (l_))), (1, .int (iZ (b_))), (2, .int (iZ (r_))), (3, .int (iZ (t_)))] := hl
  have hzs := hG.1
  have hFF : pb_F (fun q => q < H0.size) H0 H0 := pb_F.rf
  refine pb_newE C in_X2 tyX2 tyX2_ok (ci := 1) rfl q402 q131 q55 (fs := [.null]) (by decide) (bc' := 5) (bs' := 26) (by omega) (by omega) dX2_rectangle_0 fun a1_ H1_ ha_ hn_ hN1_ => ?_
  have hs1_ : H1_.size = H0.size + 1 := hn_.1
  have hG := hG.kept (hn_.f.mono (fun _ _ _ => trivial))
  have hz7 := hFF.1
  have hFF := hFF.tr (hn_.f.mono (fun _ _ _ => trivial))
  obtain rfl : a1_ = H0.size := by omega
  skip
  have hN := hN1_
  refine pb_dup C dX2_rectangle_3 rfl ?_
  have hz9 := hFF.1
  refine pb_go_v (bc' := 4) (bs' := 23) (pb_runI (rest := [.ref (H0.size)]) C hG (met_X2_init l H0.size H0.size (by omega) (by omega) hN) q403 q133 q55 q134 rfl hdX2_init rfl hl.1 rfl (Nat.le_of_ble_eq_true rfl) ⟨(Nat.le_of_ble_eq_true rfl), (Nat.le_of_ble_eq_true rfl)⟩ dX2_rectangle_4) (by omega) (by omega) (fun H_ hp_ => ?_)
  obtain ⟨hRb, hF1⟩ := hp_
  have hG := hG.kept (hF1.mono (fun q _ (hq : q < w.2.2.2) => Or.inl (by omega)))
  have hFF := hFF.tr (hF1.mono (fun q _ hq => Or.inl hq))
  obtain ⟨HB, hHB⟩ : ∃ HB : Heap, HB = H_ := ⟨_, rfl⟩
  have hFI : pb_F (fun q => q < HB.size) HB H_ := by rw [hHB]; exact pb_F.rf
  have hzB : H0.size ≤ HB.size := by rw [hHB]; exact hFF.1
  have hRbB : Rb w HB H0.size H0.size ([]) := by rw [hHB]; exact hRb
  refine pb_astore C dX2_rectangle_7 hl (by decide) rfl fun ls hl => ?_
  have hl : lv_has ls 6 [(4, .ref (H0.size)), (0, .int (iZ (l_))), (1, .int (iZ (b_))), (2, .int (iZ (r_))), (3, .int (iZ (t_)))] := hl
  refine pb_newE C in_X4 tyX4 tyX4_ok (ci := 3) rfl q404 q405 q70 (fs := [.null, .int (iZ (0))]) (by decide) (bc' := 3) (bs' := 21) (by omega) (by omega) dX2_rectangle_9 fun a2_ H2_ ha_ hn_ hN2_ => ?_
  have hs2_ : H2_.size = H_.size + 1 := hn_.1
  have hG := hG.kept (hn_.f.mono (fun _ _ _ => trivial))
  have hz7 := hFF.1
  have hz6 := hFI.1
  have hFF := hFF.tr (hn_.f.mono (fun _ _ _ => trivial))
  have hFI := hFI.tr (hn_.f.mono (fun _ _ _ => trivial))
  have a2__e : a2_ = H_.size := ha_
  refine pb_dup C dX2_rectangle_12 rfl ?_
  have hz9 := hFF.1
  have hz8 := hFI.1
  refine pb_go_v (bc' := 2) (bs' := 13) (pb_runIN (rest := [.ref (a2_)]) C hG (met_X4_init l HB.size a2_ (by omega) (by omega) hN2_) q406 q407 q70 q408 rfl hdX4_init rfl hl.1 rfl (Nat.le_of_ble_eq_true rfl) ⟨(Nat.le_of_ble_eq_true rfl), (Nat.le_of_ble_eq_true rfl)⟩ dX2_rectangle_13) (by omega) (by omega) (fun H_ hp_ => ?_)
  obtain ⟨hSb, hF1⟩ := hp_
  have hG := hG.kept (hF1.mono (fun q _ (hq : q < w.2.2.2) => show q ≠ _ from by omega))
  have hFF := hFF.tr (hF1.mono (fun q _ (hq : q < H0.size) => show q ≠ _ from by omega))
  have hFI := hFI.tr (hF1.mono (fun q _ (hq : q < HB.size) => show q ≠ _ from by omega))
  refine pb_astore C dX2_rectangle_16 hl (by decide) rfl fun ls hl => ?_
  have hl : lv_has ls 6 [(5, .ref (a2_)), (4, .ref (H0.size)), (0, .int (iZ (l_))), (1, .int (iZ (b_))), (2, .int (iZ (r_))), (3, .int (iZ (t_)))] := hl
  refine pb_aload C dX2_rectangle_18 (lv_at hl 0 rfl) ?_
  refine pb_iload_n C dX2_rectangle_20 rfl (lv_at hl 2 rfl) ?_
  refine pb_iload_n C dX2_rectangle_21 rfl (lv_at hl 4 rfl) ?_
  have hn0 := spc_nil l_ r_
  have hL1 : (spadd [] l_ r_).length ≤ 64 := Nat.le_trans (spadd_nil _ _) (by decide)
  obtain ⟨fs_, hR_⟩ := hSb.o
  have hz9 := hFF.1
  refine pb_go_v (bc' := 2 - ((spc ([]) l_ r_ 8))) (bs' := 13 - ((sps ([]) l_ r_ 8))) (pb_runV (rest := []) C hG (met_X4_add l HB.size a2_ 8 ([]) (by omega) hSb l_ r_ (by omega) (by omega) hL1) hR_ (ci := 3) rfl (lw_V q418 q419 q420 q70 q421) ⟨rfl, hdX4_add⟩ rfl hl.1 rfl (Nat.le_of_ble_eq_true rfl) ⟨(Nat.le_of_ble_eq_true rfl), (Nat.le_of_ble_eq_true rfl)⟩ dX2_rectangle_22) (by omega) (by omega) (fun H_ hp_ => ?_)
  obtain ⟨hSb, hF1⟩ := hp_
  have hG := hG.kept (hF1.mono (fun q _ (hq : q < w.2.2.2) => show q < _ from by omega))
  have hFF := hFF.tr (hF1.mono (fun q _ (hq : q < H0.size) => show q < _ from by omega))
  have hFI := hFI.tr hF1
  refine pb_aload C dX2_rectangle_25 (lv_at hl 1 rfl) ?_
  refine pb_iload_n C dX2_rectangle_27 rfl (lv_at hl 3 rfl) ?_
  refine pb_iload_n C dX2_rectangle_28 rfl (lv_at hl 5 rfl) ?_
  refine pb_aload C dX2_rectangle_29 (lv_at hl 0 rfl) ?_
  have hRb := hRbB.kept (hFI.mono (fun q h _ => h))
  obtain ⟨fsR_, hRbo⟩ := hRb.o
  have hra := rad_nil b_ t_ (spadd [] l_ r_)
  refine pb_go_v (bc' := 2 - ((spc ([]) l_ r_ 8)) - ((radc ([]) b_ t_ ((spadd [] l_ r_))))) (bs' := 13 - ((sps ([]) l_ r_ 8)) - ((rads ([]) b_ t_ ((spadd [] l_ r_))))) (pb_runV (rest := []) C hG (met_X2_add l H0.size H0.size _ ([]) ((spadd [] l_ r_)) b_ t_ (by omega) hRb (hSb.hi hzB) (by omega) (by omega) (by decide)) hRbo (ci := 1) rfl (lw_V q423 q424 q425 q55 q426) ⟨rfl, hdX2_add⟩ rfl hl.1 rfl (Nat.le_of_ble_eq_true rfl) ⟨(Nat.le_of_ble_eq_true rfl), (Nat.le_of_ble_eq_true rfl)⟩ dX2_rectangle_31) (by omega) (by omega) (fun H_ hp_ => ?_)
  obtain ⟨hRb, hFA⟩ := hp_
  have hG := hG.kept (hFA.mono (fun q _ (hq : q < w.2.2.2) => Or.inl (by omega)))
  have hFF := hFF.tr (hFA.mono (fun q _ hq => Or.inl hq))
  refine pb_aload C dX2_rectangle_34 (lv_at hl 1 rfl) ?_
  exact pb_aret C (Or.inl ⟨_, rfl⟩) dX2_rectangle_36 (Or.inr ⟨_, rfl⟩) (⟨_, rfl, hRb, hFF⟩)

set_option maxHeartbeats 1000000 in
theorem met_X2_combine {w : pb_W} (l : Launch) {H0 : Heap} (a b k : Nat) (hk : k < 4) (P P2 : Nat → Prop) (L M : List Bnd) (hR : Rg w H0 P a L) (hR2 : Rg w H0 P2 b M) (D : Nat) (K : Int) (hD : D ≤ 200) (hlow : K - D ≤ min (lowF L) (lowF M)) (hK : ∀ y, y < nhAll L M y → nhAll L M y ≤ K) (hE : ∀ y n, n ≤ (rowL L y).length + (rowL M y).length → (cmS k (rowL L y) (rowL M y) n).2.2.2.length ≤ 64) : pb_M w l yX2_combine cX2_combine 6 (some (.object "PolygonBoard$Region")) 8 (4 + 9 * D + rpC D 0) (12 + 138 * D + rpS D 0) [.ref (a), .ref (b), .ref ((w.2.2.1 (3 + k)))] H0 (pb_qr (fun r H1 => ∃ N, ¬ (rcm k L M N).1 < nhAll L M (rcm k L M N).1 ∧ N ≤ D ∧ Rb w H1 H0.size r (rcm k L M N).2 ∧ pb_F (fun q => q < H0.size) H0 H1)) := by
  refine pb_of (by decide +kernel) (Nat.le_of_ble_eq_true rfl) ?_
  intro p_ e_ s_ m_ ar_ bl_ me_ co_ ls C hh hG hl
  have hl : lv_has ls 6 [(0, .ref (a)), (1, .ref (b)), (2, .ref ((w.2.2.1 (3 + k))))] := hl
  have hzs := hG.1
  have hFF : pb_F (fun q => q < H0.size) H0 H0 := pb_F.rf
  have hr0 : rpC D ([] : List Bnd).length = rpC D 0 ∧ rpS D ([] : List Bnd).length = rpS D 0 := ⟨rfl, rfl⟩
  have hR := hR.below
  have hR2 := hR2.below
  have hrb := hR.rb
  have hrb2 := hR2.rb
  have hlA := lowF_rg hrb
  have hlB := lowF_rg hrb2
  have hh0 := nhAll_rg hrb hrb2 (y := min (lowF L) (lowF M)) (by omega)
  have L30 : ∀ (n_ : Nat) (n r : Nat) (lo hi : Int) (R9 : List Bnd) (H : Heap), D - n = n_ → (pb_G w s_ H) → (rcm k L M n = (lo, R9)) → (hi = nhAll L M lo) → (n ≤ D) → (K - D + n ≤ lo) → (-1000 ≤ lo ∧ lo ≤ 1000) → (Rb w H H0.size r R9) → (R9.length ≤ n) → (pb_F (fun q => q < H0.size) H0 H) → ∀ (ls : Array Slot), lv_has ls 6 [(0, .ref (a)), (1, .ref (b)), (2, .ref ((w.2.2.1 (3 + k)))), (3, .ref (r)), (4, .int (iZ (lo))), (5, .int (iZ (hi)))] → pb_V w.2.2.2 p_ l e_ (pb_rm 8 (4 + 9 * D + rpC D 0) (12 + 138 * D + rpS D 0)) s_ m_ ar_ bl_ me_ co_ H (9 * (D - n) + rpC D R9.length) (138 * (D - n) + rpS D R9.length) (pb_E w bl_ ar_ s_ (4 + 9 * D + rpC D 0) (12 + 138 * D + rpS D 0) (pb_qr (fun r H1 => ∃ N, ¬ (rcm k L M N).1 < nhAll L M (rcm k L M N).1 ∧ N ≤ D ∧ Rb w H1 H0.size r (rcm k L M N).2 ∧ pb_F (fun q => q < H0.size) H0 H1))) (F0 m_ 30 ls []) := by
    intro n_
    induction n_ using Nat.strongRecOn with
    | _ n_ ih30 =>
    intro n r lo hi R9 H hm_ hG hc hhi hn hlo2 hlr hRb hlen hFF ls hl
    have hhr : -1000 ≤ hi ∧ hi ≤ 1000 := by rw [hhi]; exact nhAll_rg hrb hrb2 hlr
    have hK1 : lo < hi → hi ≤ K := fun h => by rw [hhi] at h ⊢; exact hK lo h
    obtain ⟨HB, hHB⟩ : ∃ HB : Heap, HB = H := ⟨_, rfl⟩
    have hFI : pb_F (fun q => q < HB.size) HB H := by rw [hHB]; exact pb_F.rf
    have hzB : H0.size ≤ HB.size := by rw [hHB]; exact hFF.1
    have hRbB : Rb w HB H0.size r R9 := by rw [hHB]; exact hRb
    refine pb_iload C dX2_combine_30 (lv_at hl 5 rfl) ?_
    refine pb_iload C dX2_combine_32 (lv_at hl 4 rfl) ?_
    refine pb_icmp_le C dX2_combine_34 (x := hi) (y := lo) (tgt := 77) (by decide) (by omega) (by omega) (fun c34_ => ?_) (fun c34_ => ?_)
    · refine pb_aload_n C dX2_combine_77 rfl (lv_at hl 3 rfl) ?_
      exact pb_aret C (Or.inl ⟨_, rfl⟩) dX2_combine_78 (Or.inr ⟨_, rfl⟩) (⟨_, rfl, n, by rw [hc, ← hhi]; omega, hn, by rw [hc]; exact hRb, hFF⟩)
    · refine pb_aload_n C dX2_combine_37 rfl (lv_at hl 3 rfl) ?_
      refine pb_iload C dX2_combine_38 (lv_at hl 4 rfl) ?_
      refine pb_iload C dX2_combine_40 (lv_at hl 5 rfl) ?_
      refine pb_aload_n C dX2_combine_42 rfl (lv_at hl 0 rfl) ?_
      refine pb_iload C dX2_combine_43 (lv_at hl 4 rfl) ?_
      obtain ⟨fsA_, hAo⟩ := (hR.kept hFF).o
      refine pb_go_r (bc' := 9 * (D - n) + rpC D R9.length - 1) (bs' := 138 * (D - n) + rpS D R9.length - 4) (pb_runV (rest := [.int (iZ (hi)), .int (iZ (lo)), .ref (r)]) C hG (met_X2_spansAt l a _ L (hR.kept hFF) lo (by omega)) hAo (ci := 1) rfl (lw_V q687 q688 q689 q55 q690) ⟨rfl, hdX2_spansAt⟩ rfl hl.1 rfl (Nat.le_of_ble_eq_true rfl) ⟨(Nat.le_of_ble_eq_true rfl), (Nat.le_of_ble_eq_true rfl)⟩ dX2_combine_45) (by omega) (by omega) (fun s1 H_ hp_ => ?_)
      obtain ⟨hS1, hF1⟩ := hp_
      have hG := hG.kept (hF1.mono (fun q _ (hq : q < w.2.2.2) => Nat.lt_of_lt_of_le hq hG.1))
      have hFF := hFF.tr (hF1.mono (fun q _ (hq : q < H0.size) => Nat.lt_of_lt_of_le hq hFF.1))
      have hFI := hFI.tr (hF1.mono (fun q _ (hq : q < HB.size) => Nat.lt_of_lt_of_le hq hFI.1))
      refine pb_aload_n C dX2_combine_48 rfl (lv_at hl 1 rfl) ?_
      refine pb_iload C dX2_combine_49 (lv_at hl 4 rfl) ?_
      obtain ⟨fsB_, hBo⟩ := (hR2.kept hFF).o
      have hS1 := hS1.below
      refine pb_go_r (bc' := 9 * (D - n) + rpC D R9.length - 1 - 1) (bs' := 138 * (D - n) + rpS D R9.length - 4 - 4) (pb_runV (rest := [.ref (s1), .int (iZ (hi)), .int (iZ (lo)), .ref (r)]) C hG (met_X2_spansAt l b _ M (hR2.kept hFF) lo (by omega)) hBo (ci := 1) rfl (lw_V q687 q688 q689 q55 q690) ⟨rfl, hdX2_spansAt⟩ rfl hl.1 rfl (Nat.le_of_ble_eq_true rfl) ⟨(Nat.le_of_ble_eq_true rfl), (Nat.le_of_ble_eq_true rfl)⟩ dX2_combine_51) (by omega) (by omega) (fun s2 H_ hp_ => ?_)
      obtain ⟨hS2, hF1⟩ := hp_
      have hG := hG.kept (hF1.mono (fun q _ (hq : q < w.2.2.2) => Nat.lt_of_lt_of_le hq hG.1))
      have hFF := hFF.tr (hF1.mono (fun q _ (hq : q < H0.size) => Nat.lt_of_lt_of_le hq hFF.1))
      have hFI := hFI.tr (hF1.mono (fun q _ (hq : q < HB.size) => Nat.lt_of_lt_of_le hq hFI.1))
      have hS1 := hS1.kept hF1
      obtain ⟨fsS_, hS1o⟩ := hS1.o
      have hz5 := hFF.1
      refine pb_aload_n C dX2_combine_54 rfl (lv_at hl 2 rfl) ?_
      refine pb_go_r (bc' := 9 * (D - n) + rpC D R9.length - 1 - 1 - 5) (bs' := 138 * (D - n) + rpS D R9.length - 4 - 4 - 122) (pb_runV (rest := [.int (iZ (hi)), .int (iZ (lo)), .ref (r)]) C hG (met_X4_combine l s1 s2 k hk _ _ (rowL L lo) (rowL M lo) hS1 hS2 (hE lo)) hS1o (ci := 3) rfl (lw_V q694 q695 q696 q70 q697) ⟨rfl, hdX4_combine⟩ rfl hl.1 rfl (Nat.le_of_ble_eq_true rfl) ⟨(Nat.le_of_ble_eq_true rfl), (Nat.le_of_ble_eq_true rfl)⟩ dX2_combine_55) (by omega) (by omega) (fun s3 H_ hp_ => ?_)
      obtain ⟨m9, hS3, hF1⟩ := hp_
      have hG := hG.kept (hF1.mono (fun q _ (hq : q < w.2.2.2) => Nat.lt_of_lt_of_le hq hG.1))
      have hFF := hFF.tr (hF1.mono (fun q _ (hq : q < H0.size) => Nat.lt_of_lt_of_le hq hFF.1))
      have hFI := hFI.tr (hF1.mono (fun q _ (hq : q < HB.size) => Nat.lt_of_lt_of_le hq hFI.1))
      have hRb := hRbB.kept (hFI.mono (fun q h _ => h))
      obtain ⟨fsR_, hRbo⟩ := hRb.o
      have hpot := radd_pot (L := R9) (lo := lo) (hi := hi) (E := cmE k (rowL L lo) (rowL M lo)) (N := D) (Nat.le_trans (radd_n hlen) (by omega))
      refine pb_go_v (bc' := 9 * (D - n) + rpC D R9.length - 1 - 1 - 5 - ((radc R9 lo hi ((cmE k (rowL L lo) (rowL M lo)))))) (bs' := 138 * (D - n) + rpS D R9.length - 4 - 4 - 122 - ((rads R9 lo hi ((cmE k (rowL L lo) (rowL M lo)))))) (pb_runV (rest := []) C hG (met_X2_add l H0.size r _ R9 ((cmE k (rowL L lo) (rowL M lo))) lo hi (by omega) hRb (hS3.hi hz5) (by omega) (by omega) (by omega)) hRbo (ci := 1) rfl (lw_V q423 q424 q425 q55 q426) ⟨rfl, hdX2_add⟩ rfl hl.1 rfl (Nat.le_of_ble_eq_true rfl) ⟨(Nat.le_of_ble_eq_true rfl), (Nat.le_of_ble_eq_true rfl)⟩ dX2_combine_58) (by omega) (by omega) (fun H_ hp_ => ?_)
      obtain ⟨hRb, hFA⟩ := hp_
      have hG := hG.kept (hFA.mono (fun q _ (hq : q < w.2.2.2) => Or.inl (by omega)))
      have hFF := hFF.tr (hFA.mono (fun q _ hq => Or.inl hq))
      refine pb_iload C dX2_combine_61 (lv_at hl 5 rfl) ?_
      refine pb_istore C dX2_combine_63 hl (by decide) rfl fun ls hl => ?_
      have hl : lv_has ls 6 [(4, .int (iZ (hi))), (0, .ref (a)), (1, .ref (b)), (2, .ref ((w.2.2.1 (3 + k)))), (3, .ref (r)), (5, .int (iZ (hi)))] := hl
      refine pb_aload_n C dX2_combine_65 rfl (lv_at hl 1 rfl) ?_
      refine pb_aload_n C dX2_combine_66 rfl (lv_at hl 2 rfl) ?_
      refine pb_iload C dX2_combine_67 (lv_at hl 0 rfl) ?_
      refine pb_go_i (bc' := 9 * (D - n) + rpC D R9.length - 1 - 1 - 5 - ((radc R9 lo hi ((cmE k (rowL L lo) (rowL M lo))))) - 2) (bs' := 138 * (D - n) + rpS D R9.length - 4 - 4 - 122 - ((rads R9 lo hi ((cmE k (rowL L lo) (rowL M lo))))) - 8) (pb_runS (rest := []) C hG (met_X2_nextHeight l a b _ _ L M (hR.kept hFF) (hR2.kept hFF) hi (by omega)) (lw_S q673 q674 q55 q675) hdX2_nextHeight rfl hl.1 rfl (Nat.le_of_ble_eq_true rfl) ⟨(Nat.le_of_ble_eq_true rfl), (Nat.le_of_ble_eq_true rfl)⟩ dX2_combine_69) (by omega) (by omega) (fun h2_ H_ hp_ => ?_)
      obtain ⟨hh2, hF1⟩ := hp_
      have hG := hG.kept (hF1.mono (fun q _ (hq : q < w.2.2.2) => Nat.lt_of_lt_of_le hq hG.1))
      have hFF := hFF.tr (hF1.mono (fun q _ (hq : q < H0.size) => Nat.lt_of_lt_of_le hq hFF.1))
      have hRb := hRb.kept (hF1.mono (fun q h _ => h))
      refine pb_istore C dX2_combine_72 hl (by decide) rfl fun ls hl => ?_
      have hl : lv_has ls 6 [(5, .int (iZ (h2_))), (4, .int (iZ (hi))), (0, .ref (a)), (1, .ref (b)), (2, .ref ((w.2.2.1 (3 + k)))), (3, .ref (r))] := hl
      refine pb_goto C dX2_combine_74 (tgt := 30) (by decide) ?_
      exact pb_V.mono (by omega) (by omega) (ih30 _ (by omega) (n + 1) r hi h2_ (radd R9 lo hi (cmE k (rowL L lo) (rowL M lo))) H_ rfl hG (by rw [rcm, hc]; show (nhAll L M lo, radd R9 lo (nhAll L M lo) (cmE k (rowL L lo) (rowL M lo))) = _; rw [← hhi]) hh2 (by omega) (by omega) (by omega) hRb (radd_n hlen) hFF ls (lv_sub hl [2, 3, 4, 5, 1, 0] rfl))
  refine pb_newE C in_X2 tyX2 tyX2_ok (ci := 1) rfl q402 q131 q55 (fs := [.null]) (by decide) (bc' := 4 + 9 * D + rpC D 0 - 1) (bs' := 12 + 138 * D + rpS D 0 - 1) (by omega) (by omega) dX2_combine_0 fun a1_ H1_ ha_ hn_ hN1_ => ?_
  have hs1_ : H1_.size = H0.size + 1 := hn_.1
  have hG := hG.kept (hn_.f.mono (fun _ _ _ => trivial))
  have hz7 := hFF.1
  have hFF := hFF.tr (hn_.f.mono (fun _ _ _ => trivial))
  obtain rfl : a1_ = H0.size := by omega
  skip
  have hN := hN1_
  refine pb_dup C dX2_combine_3 rfl ?_
  have hz9 := hFF.1
  refine pb_go_v (bc' := 4 + 9 * D + rpC D 0 - 1 - 1) (bs' := 12 + 138 * D + rpS D 0 - 1 - 3) (pb_runI (rest := [.ref (H0.size)]) C hG (met_X2_init l H0.size H0.size (by omega) (by omega) hN) q403 q133 q55 q134 rfl hdX2_init rfl hl.1 rfl (Nat.le_of_ble_eq_true rfl) ⟨(Nat.le_of_ble_eq_true rfl), (Nat.le_of_ble_eq_true rfl)⟩ dX2_combine_4) (by omega) (by omega) (fun H_ hp_ => ?_)
  obtain ⟨hRb, hF1⟩ := hp_
  have hG := hG.kept (hF1.mono (fun q _ (hq : q < w.2.2.2) => Or.inl (by omega)))
  have hFF := hFF.tr (hF1.mono (fun q _ hq => Or.inl hq))
  obtain ⟨fsA_, hAo⟩ := (hR.kept hFF).o
  obtain ⟨fsB_, hBo⟩ := (hR2.kept hFF).o
  refine pb_astore_n C dX2_combine_7 rfl hl (by decide) rfl fun ls hl => ?_
  have hl : lv_has ls 6 [(3, .ref (H0.size)), (0, .ref (a)), (1, .ref (b)), (2, .ref ((w.2.2.1 (3 + k))))] := hl
  refine pb_aload_n C dX2_combine_8 rfl (lv_at hl 1 rfl) ?_
  refine pb_go_x (bc' := 4 + 9 * D + rpC D 0 - 1 - 1) (bs' := 12 + 138 * D + rpS D 0 - 1 - 3) (pb_runV (rest := []) C hG (met_X2_lowest l a _ L (hR.kept hFF)) hAo (ci := 1) rfl (lw_V q668 q670 qs6 q55 q671) ⟨rfl, hdX2_lowest⟩ rfl hl.1 rfl (Nat.le_of_ble_eq_true rfl) ⟨(Nat.le_of_ble_eq_true rfl), (Nat.le_of_ble_eq_true rfl)⟩ dX2_combine_9) (by omega) (by omega) ?_
  refine pb_aload_n C dX2_combine_12 rfl (lv_at hl 2 rfl) ?_
  refine pb_go_x (bc' := 4 + 9 * D + rpC D 0 - 1 - 1) (bs' := 12 + 138 * D + rpS D 0 - 1 - 3) (pb_runV (rest := [.int (iZ ((lowF L)))]) C hG (met_X2_lowest l b _ M (hR2.kept hFF)) hBo (ci := 1) rfl (lw_V q668 q670 qs6 q55 q671) ⟨rfl, hdX2_lowest⟩ rfl hl.1 rfl (Nat.le_of_ble_eq_true rfl) ⟨(Nat.le_of_ble_eq_true rfl), (Nat.le_of_ble_eq_true rfl)⟩ dX2_combine_13) (by omega) (by omega) ?_
  refine pb_mmin C (x := (lowF L)) (y := (lowF M)) q672 q220 q57 q221 hl.1 ⟨(Nat.le_of_ble_eq_true rfl), (Nat.le_of_ble_eq_true rfl)⟩ (by omega) (by omega) dX2_combine_16 ?_
  refine pb_istore C dX2_combine_19 hl (by decide) rfl fun ls hl => ?_
  have hl : lv_has ls 6 [(4, .int (iZ ((min ((lowF L)) ((lowF M)))))), (3, .ref (H0.size)), (0, .ref (a)), (1, .ref (b)), (2, .ref ((w.2.2.1 (3 + k))))] := hl
  refine pb_aload_n C dX2_combine_21 rfl (lv_at hl 2 rfl) ?_
  refine pb_aload_n C dX2_combine_22 rfl (lv_at hl 3 rfl) ?_
  refine pb_iload C dX2_combine_23 (lv_at hl 0 rfl) ?_
  refine pb_go_i (bc' := 4 + 9 * D + rpC D 0 - 1 - 1 - 2) (bs' := 12 + 138 * D + rpS D 0 - 1 - 3 - 8) (pb_runS (rest := []) C hG (met_X2_nextHeight l a b _ _ L M (hR.kept hFF) (hR2.kept hFF) (min (lowF L) (lowF M)) (by omega)) (lw_S q673 q674 q55 q675) hdX2_nextHeight rfl hl.1 rfl (Nat.le_of_ble_eq_true rfl) ⟨(Nat.le_of_ble_eq_true rfl), (Nat.le_of_ble_eq_true rfl)⟩ dX2_combine_25) (by omega) (by omega) (fun h2_ H_ hp_ => ?_)
  obtain ⟨hh2, hF1⟩ := hp_
  have hG := hG.kept (hF1.mono (fun q _ (hq : q < w.2.2.2) => Nat.lt_of_lt_of_le hq hG.1))
  have hFF := hFF.tr (hF1.mono (fun q _ (hq : q < H0.size) => Nat.lt_of_lt_of_le hq hFF.1))
  have hRb := hRb.kept (hF1.mono (fun q h _ => h))
  refine pb_istore C dX2_combine_28 hl (by decide) rfl fun ls hl => ?_
  have hl : lv_has ls 6 [(5, .int (iZ (h2_))), (4, .int (iZ ((min ((lowF L)) ((lowF M)))))), (3, .ref (H0.size)), (0, .ref (a)), (1, .ref (b)), (2, .ref ((w.2.2.1 (3 + k))))] := hl
  exact pb_V.mono (by omega) (by omega) (L30 _ 0 H0.size (min (lowF L) (lowF M)) h2_ ([]) H_ rfl hG rfl hh2 (by omega) (by omega) (by omega) hRb (Nat.zero_le _) hFF ls (lv_sub hl [3, 4, 5, 2, 1, 0] rfl))

