set_option maxRecDepth 100000
/-! the world's constants: class numbers, array classes, addresses of constants, the heap's size at the law's start -/
abbrev pb_W : Type := va_G × (Nat → ClassId) × (Nat → Nat) × Nat
abbrev pb_cl : List vw_C := [(RX1, TX1, 2), (RX2, TX2, 1), (RX3, TX3, 16), (RX4, TX4, 2), (RX5, TX5, 3), (RX8, TX8, 2), (RX9, TX9, 2), (RX17, TX17, 4), (RX13, TX13, 3), (RX10, TX10, 5), (RX11, TX11, 3), (RX12, TX12, 1), (RX14, TX14, 3), (RX15, TX15, 3), (RX16, TX16, 2), (RJ2, TJ2, 3), (RJ15, TJ15, 4), (RJ19, TJ19, 1), (RJ20, TJ20, 3)]
def pb_aty : Nat → FieldType
  | 0 => .int
  | 1 => .boolean
  | 2 => .long
  | 3 => .double
  | 4 => .object "java/lang/Object"
  | _ => .object "PolygonBoard$Operation"
def pb_ty (dA : Nat → ClassId) : List (ClassId × FieldType) := [(dA 0, .int), (dA 1, .boolean), (dA 2, .long), (dA 3, .double), (dA 4, .object "java/lang/Object"), (dA 5, .object "PolygonBoard$Operation")]
theorem pb_ty_at (dA : Nat → ClassId) {t : Nat} (h : t < 6) : (pb_ty dA)[t]? = some (dA t, pb_aty t) := by
  match t, h with
  | 0, _ => rfl
  | 1, _ => rfl
  | 2, _ => rfl
  | 3, _ => rfl
  | 4, _ => rfl
  | 5, _ => rfl
def pb_nw : Cond → Bool
  | .fieldLinkNest _ _ _ _ _ _ => true
  | .methodLinkNest _ _ _ _ => true
  | .declares _ => true
  | .castable _ _ => true
  | _ => false
def pb_Fws : List (String × MethodName × MethodName) := [
  (RJ2, ⟨"java/util/List", "add", "(Ljava/lang/Object;)Z"⟩, yJ2_add),
  (RJ2, ⟨"java/util/List", "get", "(I)Ljava/lang/Object;"⟩, yJ2_get),
  (RJ2, ⟨"java/util/List", "isEmpty", "()Z"⟩, yJ2_isEmpty),
  (RJ2, ⟨"java/util/List", "size", "()I"⟩, yJ2_size),
  (RJ2, ⟨"java/util/List", "iterator", "()Ljava/util/Iterator;"⟩, yJ2_iterator),
  (RJ2, ⟨"java/util/List", "set", "(ILjava/lang/Object;)Ljava/lang/Object;"⟩, yJ2_set),
  (RJ15, ⟨"java/util/Iterator", "hasNext", "()Z"⟩, yJ15_hasNext),
  (RJ15, ⟨"java/util/Iterator", "next", "()Ljava/lang/Object;"⟩, yJ15_next)]
/-- what the tables say, all through a run -/
def pb_K (w : pb_W) (U : State) : Prop :=
  va_K w.1 pb_cl (pb_ty w.2.1) U ∧ (∀ q ∈ lw_tbl, pb_nw q = true → va_Nw q U) ∧ (∀ q ∈ pb_Fws, va_Fw q.1 q.2.1 q.2.2 U) ∧ va_AO "java/lang/Object" U ∧ va_AO "PolygonBoard$Operation" U ∧ va_Mi "[Ljava/lang/Object;" (w.2.2.1 9) U
theorem pb_Fws_ok : ∀ q ∈ pb_Fws, q.2.1.cls ≠ "java/lang/invoke/MethodHandle" ∧ q.2.1.cls ≠ "java/lang/invoke/VarHandle" := by decide +kernel
theorem pb_K.moved {w : pb_W} {s U : State} (hW : s.WarmedH U.vm) (h : pb_K w s) : pb_K w U := by
  obtain ⟨h1, h2, h3, h4, h5, h6⟩ := h
  refine ⟨va_K.moved hW.alike h1, fun q hq hn => ?_, fun q hq => va_Fw.moved (pb_Fws_ok q hq) hW.alike (h3 q hq), va_AO.moved hW.alike h4, va_AO.moved hW.alike h5, va_Mi.moved hW.alike h6⟩
  have h := h2 q hq hn
  cases q <;> first | exact (Bool.false_ne_true hn).elim | exact va_Nw.warmF hW h | exact va_Nw.warmM hW h | exact va_Nw.warmD hW h | exact va_Nw.warmC hW h
/-! heaps: cells that are written, cells that are read -/
def pb_O (w : pb_W) (H : Heap) (a ci : Nat) (fs : List Value) : Prop := va_at w.1 pb_cl (a, .inr (ci, fs)) H
def pb_R (w : pb_W) (H : Heap) (a ci : Nat) (fs : List Value) : Prop := ∃ (r : vw_C) (cell : Cell), pb_cl[ci]? = some r ∧ H[a]? = some cell ∧ cell.cls = w.1.1 ci ∧ cell.vm.isStatics = false ∧ cell.vm ≠ .unknown ∧ ∀ k, k < r.2.2 → cell.slots[w.1.2 ci k]? = some (vp_V fs k)
def pb_A (w : pb_W) (H : Heap) (a t n : Nat) (g : Nat → Value) : Prop := H[a]? = some (arrV (w.2.1 t) n g)
def pb_B (w : pb_W) (H : Heap) (a t n : Nat) (g : Nat → Value) : Prop := ∃ cell : Cell, H[a]? = some cell ∧ cell.cls = w.2.1 t ∧ cell.vm.isStatics = false ∧ cell.vm ≠ .unknown ∧ cell.slots.size = n ∧ ∀ j, j < n → cell.slots[j]? = some (g j)
theorem pb_O.r {w : pb_W} {H : Heap} {a ci : Nat} {fs : List Value} (h : pb_O w H a ci fs) : pb_R w H a ci fs := by
  obtain ⟨r, h1, cell, h2, h3, h4, h5⟩ := h
  exact ⟨r, cell, h1, h2, h3, by rw [h4]; rfl, by rw [h4]; exact (fun e => nomatch e), h5⟩
theorem pb_A.b {w : pb_W} {H : Heap} {a t n : Nat} {g : Nat → Value} (h : pb_A w H a t n g) : pb_B w H a t n g :=
  ⟨_, h, rfl, rfl, (fun e => nomatch e), arrV_size _ _ _, fun j hj => arrV_read _ _ hj⟩
theorem pb_R.lt {w : pb_W} {H : Heap} {a ci : Nat} {fs : List Value} (h : pb_R w H a ci fs) : a < H.size := by
  obtain ⟨_, _, _, h, _⟩ := h
  exact (Array.getElem?_eq_some_iff.mp h).1
theorem pb_B.lt {w : pb_W} {H : Heap} {a t n : Nat} {g : Nat → Value} (h : pb_B w H a t n g) : a < H.size := by
  obtain ⟨_, h, _⟩ := h
  exact (Array.getElem?_eq_some_iff.mp h).1
theorem pb_O.lt {w : pb_W} {H : Heap} {a ci : Nat} {fs : List Value} (h : pb_O w H a ci fs) : a < H.size := h.r.lt
theorem pb_A.lt {w : pb_W} {H : Heap} {a t n : Nat} {g : Nat → Value} (h : pb_A w H a t n g) : a < H.size := h.b.lt
theorem pb_O.kept {w : pb_W} {H H1 : Heap} {a ci : Nat} {fs : List Value} (h : pb_O w H a ci fs) (e : H1[a]? = H[a]?) : pb_O w H1 a ci fs := va_at.kept h e
theorem pb_R.kept {w : pb_W} {H H1 : Heap} {a ci : Nat} {fs : List Value} (h : pb_R w H a ci fs) (e : H1[a]? = H[a]?) : pb_R w H1 a ci fs := by
  obtain ⟨r, cell, h1, h2, h3⟩ := h
  exact ⟨r, cell, h1, e.trans h2, h3⟩
theorem pb_A.kept {w : pb_W} {H H1 : Heap} {a t n : Nat} {g : Nat → Value} (h : pb_A w H a t n g) (e : H1[a]? = H[a]?) : pb_A w H1 a t n g := e.trans h
theorem pb_B.kept {w : pb_W} {H H1 : Heap} {a t n : Nat} {g : Nat → Value} (h : pb_B w H a t n g) (e : H1[a]? = H[a]?) : pb_B w H1 a t n g := by
  obtain ⟨cell, h2, h3⟩ := h
  exact ⟨cell, e.trans h2, h3⟩
/-- one cell written; one cell made; what stays -/
def pb_Up (a : Nat) (H H1 : Heap) : Prop := H1.size = H.size ∧ ∀ q : Nat, q ≠ a → H1[q]? = H[q]?
def pb_Nx (H H1 : Heap) : Prop := H1.size = H.size + 1 ∧ ∀ q : Nat, q < H.size → H1[q]? = H[q]?
def pb_F (P : Nat → Prop) (H H1 : Heap) : Prop := H.size ≤ H1.size ∧ ∀ q : Nat, q < H.size → P q → H1[q]? = H[q]?
theorem pb_Up.f {a : Nat} {H H1 : Heap} (h : pb_Up a H H1) : pb_F (fun q => q ≠ a) H H1 := ⟨Nat.le_of_eq h.1.symm, fun q _ hq => h.2 q hq⟩
theorem pb_Nx.f {H H1 : Heap} (h : pb_Nx H H1) : pb_F (fun _ => True) H H1 := ⟨by rw [h.1]; exact Nat.le_succ _, fun q hq _ => h.2 q hq⟩
theorem pb_F.rf {P : Nat → Prop} {H : Heap} : pb_F P H H := ⟨Nat.le_refl _, fun _ _ _ => rfl⟩
theorem pb_F.tr {P : Nat → Prop} {H H1 H2 : Heap} (h : pb_F P H H1) (h2 : pb_F P H1 H2) : pb_F P H H2 := ⟨Nat.le_trans h.1 h2.1, fun q hq hp => (h2.2 q (Nat.lt_of_lt_of_le hq h.1) hp).trans (h.2 q hq hp)⟩
theorem pb_F.mono {P P' : Nat → Prop} {H H1 : Heap} (h : pb_F P H H1) (hp : ∀ q, q < H.size → P' q → P q) : pb_F P' H H1 := ⟨h.1, fun q hq hq' => h.2 q hq (hp q hq hq')⟩
/-- the constants of the heap: they lie below the start's size and nobody writes there -/
def pb_G (w : pb_W) (U : State) (H : Heap) : Prop :=
  w.2.2.2 ≤ H.size ∧
  va_Z "java/util/ArrayList" "DEFAULTCAPACITY_EMPTY_ELEMENTDATA" "[Ljava/lang/Object;" (.ref (w.2.2.1 0)) (fun q => w.2.2.2 ≤ q) U H ∧ w.2.2.1 0 < w.2.2.2 ∧ pb_B w H (w.2.2.1 0) 4 0 (fun _ => .null) ∧
  va_Z "PolygonBoard$Region" "NO_SPANS" "LPolygonBoard$Spans;" (.ref (w.2.2.1 1)) (fun q => w.2.2.2 ≤ q) U H ∧ w.2.2.1 1 < w.2.2.2 ∧ w.2.2.1 2 < w.2.2.2 ∧ pb_R w H (w.2.2.1 1) 3 [.ref (w.2.2.1 2), .int (iZ 0)] ∧ pb_B w H (w.2.2.1 2) 0 8 (fun _ => .int (iZ 0)) ∧
  (va_Z "PolygonBoard$Operation" "UNION" "LPolygonBoard$Operation;" (.ref (w.2.2.1 3)) (fun q => w.2.2.2 ≤ q) U H ∧ va_O "PolygonBoard$Operation$1" (w.2.2.1 3) (fun q => w.2.2.2 ≤ q) U H ∧ va_OF "PolygonBoard$Operation" "letter" "C" (.int 117) (w.2.2.1 3) (fun q => w.2.2.2 ≤ q) U H) ∧
  (va_Z "PolygonBoard$Operation" "INTERSECTION" "LPolygonBoard$Operation;" (.ref (w.2.2.1 4)) (fun q => w.2.2.2 ≤ q) U H ∧ va_O "PolygonBoard$Operation$2" (w.2.2.1 4) (fun q => w.2.2.2 ≤ q) U H ∧ va_OF "PolygonBoard$Operation" "letter" "C" (.int 105) (w.2.2.1 4) (fun q => w.2.2.2 ≤ q) U H) ∧
  (va_Z "PolygonBoard$Operation" "DIFFERENCE" "LPolygonBoard$Operation;" (.ref (w.2.2.1 5)) (fun q => w.2.2.2 ≤ q) U H ∧ va_O "PolygonBoard$Operation$3" (w.2.2.1 5) (fun q => w.2.2.2 ≤ q) U H ∧ va_OF "PolygonBoard$Operation" "letter" "C" (.int 100) (w.2.2.1 5) (fun q => w.2.2.2 ≤ q) U H) ∧
  (va_Z "PolygonBoard$Operation" "EXCLUSIVE" "LPolygonBoard$Operation;" (.ref (w.2.2.1 6)) (fun q => w.2.2.2 ≤ q) U H ∧ va_O "PolygonBoard$Operation$4" (w.2.2.1 6) (fun q => w.2.2.2 ≤ q) U H ∧ va_OF "PolygonBoard$Operation" "letter" "C" (.int 120) (w.2.2.1 6) (fun q => w.2.2.2 ≤ q) U H) ∧
  (va_Z "PolygonBoard$Operation" "$VALUES" "[LPolygonBoard$Operation;" (.ref (w.2.2.1 7)) (fun q => w.2.2.2 ≤ q) U H ∧ w.2.2.1 7 < w.2.2.2 ∧ pb_B w H (w.2.2.1 7) 5 4 (fun j => .ref (w.2.2.1 (3 + j)))) ∧
  (va_Z "java/lang/Integer$IntegerCache" "high" "I" (.int 127) (fun q => w.2.2.2 ≤ q) U H ∧ va_Z "java/lang/Integer$IntegerCache" "cache" "[Ljava/lang/Integer;" (.ref (w.2.2.1 8)) (fun q => w.2.2.2 ≤ q) U H ∧ va_T (.object "java/lang/Integer") (w.2.2.1 8) 256 (fun j => .ref (w.2.2.1 (256 + j))) (fun q => w.2.2.2 ≤ q) U H ∧ ∀ j, j < 256 → w.2.2.1 (256 + j) < w.2.2.2 ∧ pb_R w H (w.2.2.1 (256 + j)) 17 [.int (iZ ((j : Int) - 128))]) ∧
  vx_Zq Bundle.tN "UNASSIGNED_STACK" Bundle.steD (fun q => w.2.2.2 ≤ q) U H ∧ vx_Zq Bundle.tN "SUPPRESSED_SENTINEL" Bundle.listD (fun q => w.2.2.2 ≤ q) U H
