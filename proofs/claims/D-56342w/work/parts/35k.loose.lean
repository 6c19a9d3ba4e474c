/-! contracts of methods whose class bears no word 'initialized': the same form, without that demand -/
def pb_MF (l : Launch) (x : MethodName) (S : Spec) (P : Array Value → State → Prop) (Q : Array Value → State → Outcome → State → Prop) : Prop :=
  ∀ (p : Program) e, l.admits e → FairCas e.choices → FairClock e.choices → ∀ s m args below, s.frames = .invoking m args :: below →
    s.status = .running → s.curStatus? = some .runnable → s.alone = true → s.methodNamed? x = some m → s.hears m below = true → s.hasRoom e.platform S.room = true → S.pre.before args s = true → P args s →
    ∃ n o, (∀ k, k < n → Within (stepsAlone p.tables e k s) below) ∧ (stepsAlone p.tables e n s).status = .running ∧ Ended (stepsAlone p.tables e n s) below o ∧ Q args s o (stepsAlone p.tables e n s)
def pb_MN (w : pb_W) (l : Launch) (y : MethodName) (cc : ByteArray) (nL : Nat) (ret : Option FieldType) (d mc ms : Nat) (as : List Value) (H : Heap) (post : Option Value → Heap → Prop) : Prop :=
  pb_MF l y (headSpec (ws_ y cc nL ret) (pb_rm d mc ms)) (pb_P w as H) (fun a st o t => pb_Q post a st o t ∧ ∃ L, FrameEnd st o t L mc ms ∧ ∀ q ∈ L, w.2.2.2 ≤ q.base)
theorem pb_ofN {w : pb_W} {l : Launch} {y : MethodName} {cc : ByteArray} {nL : Nat} {ret : Option FieldType} {d mc ms : Nat} {as : List Value} {H : Heap} {post : Option Value → Heap → Prop}
    (hy : plainName y.cls = true) (hn : (lg_sl as).length ≤ nL)
    (body : ∀ p e s m args below meth c ls, pb_C w p s m meth c args cc nL y.cls y.name ret → s.heap = H → pb_G w s H → lv_has ls nL (lv_args 0 as) →
      pb_V w.2.2.2 p l e (pb_rm d mc ms) s m args below meth c H mc ms (MQ below (pb_Q post) args s mc ms (fun q => w.2.2.2 ≤ q)) (F0 m 0 ls [])) : pb_MN w l y cc nL ret d mc ms as H post := by
  intro p e ha hc hk s m args below hf hrun hable halone hname hhears hroom hpre hv
  obtain ⟨rfl, hh, hK, hG⟩ := hv
  have hts := atoms_spec (ws := ws_ y cc nL ret) hpre
  obtain ⟨meth, c, hmeth, hcode, hbytes, hlocals, hret, hlocks, -⟩ := Cond.code_spec hname (hts _ List.mem_cons_self)
  have hcur := State.cur_lt_of_frames hf
  have hf1 : (s.setFrames (.java (entryFrame m as.toArray nL) :: below)).frames = .java (entryFrame m as.toArray nL) :: below := State.frames_setFrames _ hcur
  have ht1 := State.topJava?_of_frames hf1
  have hplain : (s.setFrames (.java (entryFrame m as.toArray nL) :: below)).plainMethod m := by
    refine State.plainMethod.of_name ?_
    intro k hk
    obtain ⟨k', hk', hn⟩ := className_of_methodNamed hname
    cases (show s.vm.classes[m.cls]? = some k from hk).symm.trans hk'
    rw [hn]; exact hy
  have hAt : At (s.setFrames (.java (entryFrame m as.toArray nL) :: below)) m c below :=
    ⟨by rw [ht1]; rfl, ⟨[], by rw [hf1]; rfl⟩, hrun, by simpa using hable, by simpa using halone,
      by rw [State.code?_eq]; simp [State.setFrames, hmeth, hcode], hplain⟩
  have hexec : p.tables.exec = Jvm.exec := by cases p <;> rfl
  obtain ⟨t, ht, -⟩ := State.frames_cons hf
  have X : Stand p l e (pb_rm d mc ms) s m as.toArray below meth c (s.setFrames (.java (entryFrame m as.toArray nL) :: below)) [] 0 0 :=
    ⟨ha, hc, hk, hf, hroom, hhears, hmeth, hcode, hAt, by rw [hf1]; rfl, State.WarmedH.refl s, by rw [State.stackLimits_setFrames], by rw [State.stackBytes_setFrames], (State.sameButNew.refl s ht).setFrames (.java (entryFrame m as.toArray nL) :: below) hcur⟩
  have hts' : ∀ w ∈ lw_all, w.before as.toArray s = true := fun w h => hts w (List.mem_cons_of_mem _ h)
  have hW := body p e s m as.toArray below meth c _ ⟨hexec, hbytes, hlocals, findClass_of_methodNamed hname, hts', hret, hlocks, (name_of_methodNamed hname hmeth).1, hK⟩ hh hG (lv_entry as hn) [] 0 0 (fun _ h => nomatch h) (Nat.le_of_eq (Nat.zero_add mc)) (Nat.le_of_eq (Nat.zero_add ms))
  rw [← lg_entry_eq, ← hh] at hW
  obtain ⟨s₂, hs, o, hr, he, hp⟩ := hW (s.setFrames (.java (entryFrame m as.toArray nL) :: below)) rfl X
  have hstep : (stepThread p.tables e s).1 = (s.setFrames (.java (entryFrame m as.toArray nL) :: below)).setTop (entryFrame m as.toArray nL) := by
    have hfull : e.platform.stackFull (s.setFrames below).me (s.setFrames below).frames c.maxLocals = false := by
      obtain ⟨-, h1, -, h2⟩ := State.hasRoom_stack hroom
      rw [hf, List.length_cons] at h1
      rw [State.localsInUse_invoking hf hmeth hcode] at h2
      have hw := stackUse_le_stackWeight below
      rw [State.frames_setFrames _ hcur]
      exact Platform.stackFull_eq_false (by rw [State.stackLimits_setFrames]; omega) (by rw [State.stackLimits_setFrames]; omega)
    rw [stepThread_invoking hf, (doInvoke_java (s := s.setFrames below) (e := e) (meth := meth) (code := c) hmeth hcode hlocks hfull).1, State.setTop_self ht1]
    simp only [State.pushFrame, State.frames_setFrames _ hcur, State.setFrames_setFrames, hlocals, entryFrame]
  obtain ⟨n, hn, hw⟩ := Steps.head (tb := p.tables) (e := e) ⟨hrun, hable, halone⟩ ⟨[.invoking m as.toArray], hf, by simp, by simp⟩ (hstep ▸ hs)
  exact ⟨n, o, hw, hn ▸ hr, hn ▸ he, hn ▸ hp⟩
theorem pb_callN {l : Launch} {x : MethodName} {S : Spec} {P : Array Value → State → Prop} {Q : Array Value → State → Outcome → State → Prop} {e : Env}
    (hM : pb_MF l x S P Q) (p : Program) (ha : l.admits e) (hc : FairCas e.choices) (hk : FairClock e.choices)
    {s : State} {m : MethodId} {args : Array Value} {acts : List Action} {mid below : List Frame} (hfr : s.frames = mid ++ below) (hf' : (s.pushFrame (.invoking m args)).frames = .invoking m args :: s.frames)
    (hrun : (s.pushFrame (.invoking m args)).status = .running) (hable : (s.pushFrame (.invoking m args)).curStatus? = some .runnable) (halone : (s.pushFrame (.invoking m args)).alone = true)
    (h1 : (s.pushFrame (.invoking m args)).methodNamed? x = some m) (h2 : (s.pushFrame (.invoking m args)).hears m s.frames = true) (h3 : (s.pushFrame (.invoking m args)).hasRoom e.platform S.room = true) (h4 : S.pre.before args (s.pushFrame (.invoking m args)) = true) (hP : P args (s.pushFrame (.invoking m args))) :
    ∃ o s₂, Steps p.tables e below (doInvoke e s acts m args).1 s₂ ∧ s₂.status = .running ∧ Ended s₂ s.frames o ∧ Q args (s.pushFrame (.invoking m args)) o s₂ := by
  have hgo : (s.pushFrame (.invoking m args)).goesOn := ⟨hrun, hable, halone⟩
  obtain ⟨t, ht⟩ : ∃ t, s.threads[s.cur]? = some t := by
    cases h : s.threads[s.cur]? with
    | some t => exact ⟨t, rfl⟩
    | none =>
      have : (s.pushFrame (.invoking m args)).frames = [] := by
        simp [State.frames, State.pushFrame, State.setFrames, Array.getElem?_modify, h]
      rw [hf'] at this
      cases this
  obtain ⟨n, o, hw, hr, he, hp⟩ := hM p e ha hc hk (s.pushFrame (.invoking m args)) m args s.frames hf' hrun hable halone h1 h2 h3 h4 hP
  have hstep : (stepThread p.tables e (s.pushFrame (.invoking m args))).1 = (doInvoke e s acts m args).1 := by
    rw [stepThread_invoking hf', doInvoke_state e s acts, State.pushFrame, State.setFrames_setFrames, State.setFrames_self ht]
  cases n with
  | zero => exact absurd ⟨[.invoking m args], hf', by simp, by simp⟩ he.not_within
  | succ k =>
    rw [stepsAlone_succ _ hgo, hstep] at hr he hp
    refine ⟨o, _, ⟨k, rfl, fun j hj => ?_⟩, hr, he, hp⟩
    have := hw (j + 1) (by omega)
    rw [stepsAlone_succ _ hgo, hstep, hfr] at this
    exact this.weaken
theorem pb_backN {w : pb_W} {l : Launch} {R : Room} {p : Program} {e : Env} {below : List Frame} {s : State} {sargs : Array Value} {y : MethodName} {len W : Nat} {bytes : ByteArray} {maxL : Nat} {ret : Option FieldType} {d mc ms : Nat} {as : List Value} {H : Heap} {post : Option Value → Heap → Prop}
    (hM : pb_MN w l y bytes maxL ret d mc ms as H post) (hframes : d + 1 ≤ R.frames) (hlocals : W + (maxL + 11) + 64 * d ≤ R.locals)
    (hws : ∀ q ∈ ws_ y bytes maxL ret, ∀ a' U, s.WarmedH U.vm → q.before a' U = true) :
    Back l R p e below s sargs y len W (PreOf R mc ms (pb_P w as H)) (PostOf (pb_Q post) mc ms (fun q => w.2.2.2 ≤ q)) := by
  intro m meth c A g ig mk a X hg hsize hdg hW hn hp
  obtain ⟨U, Ls, c0, s0⟩ := A
  obtain ⟨h4, h5, hPc⟩ := hp
  dsimp only [Pt.U, Pt.locs, Pt.cells, Pt.slots] at h4 h5 hPc X hn ⊢
  have h1 : (headSpec (ws_ y bytes maxL ret) (pb_rm d mc ms)).pre.before a U = true := atoms_intro fun q hq => hws q hq _ _ X.warmed
  have h2 : (Cond.code y bytes maxL ret).before a U = true := hws _ List.mem_cons_self _ _ X.warmed
  obtain ⟨methY, cY, hmY, hcY, -, hlY, -, -, -, -⟩ := Cond.code_spec hn h2
  have h : At U g.method c below := by rw [hg]; exact X.here
  have hroom := X.room_calling (g := g) (args' := a) (m' := mk) (R' := pb_rm d mc ms) hsize hmY hcY hframes (by rw [hlY]; show 2 * g.monitorRoom + (g.stack.map fun v => v.category).sum + (maxL + 11) + 64 * d ≤ R.locals; omega) h4 h5
  have hcode : (U.calling g mk a).code? g.method = some c := by
    have := h.code
    rw [State.code?_eq] at this ⊢
    simpa [State.calling, State.pushFrame, State.setFrames] using this
  obtain ⟨mid, hmid⟩ := h.above
  have hfr : (U.setTop g).frames = (.java g :: mid) ++ below := by rw [State.frames_setTop' g h.top, hmid]; rfl
  have hbl : pb_P w as H a (U.calling g mk a) := pb_P.blind a U g mk hPc
  have hfc : (U.calling g mk a).frames = .invoking mk a :: (U.setTop g).frames := by
    rw [State.frames_setTop' g h.top]
    exact State.frames_calling h.top g mk a
  obtain ⟨o, s₂, hsteps, -, hend, hq⟩ := pb_callN hM p X.admits X.cas X.clock (acts := []) hfr hfc h.running (by simpa [State.calling] using h.runnable) (by simpa [State.calling] using h.alone) hn
    (by rw [State.frames_setTop' g h.top]; show (U.calling g mk a).hears mk (.java g :: U.frames.tail) = true; simp [State.hears, hcode, hdg, Except.toOption]) hroom (by show (headSpec (ws_ y bytes maxL ret) (pb_rm d mc ms)).pre.before a (U.calling g mk a) = true; rw [State.calling_eq h.top, Cond.before_setFrames]; exact h1) hbl
  have hq' : pb_Q post a (U.calling g mk a) o s₂ ∧ ∃ L, FrameEnd (U.calling g mk a) o s₂ L mc ms ∧ ∀ q ∈ L, w.2.2.2 ≤ q.base := hq
  rw [State.frames_setTop' g h.top] at hend
  obtain ⟨hqq, L, hfe, hL⟩ := hq'
  obtain ⟨⟨v, rfl⟩, hW₂, e2, q2, q3, q4, q5, q6⟩ := id hfe
  have e3 : s₂ = ({ (U.calling g mk a).setFrames s₂.frames with heap := s₂.heap, slotsUsed := s₂.slotsUsed } : State).setVm s₂.vm := by
    have : s₂ = ({ s₂ with vm := (U.calling g mk a).vm } : State).setVm s₂.vm := rfl
    rw [e2] at this
    exact this
  obtain ⟨c₂, i₂, len₂, hc₂, hd₂, hf₂⟩ := hend
  have hW' : U.WarmedH s₂.vm := hW₂
  have hcc : c₂ = c := by
    have h1 : s₂.code? g.method = U.code? g.method := by
      rw [State.code?_eq, State.code?_eq, hW'.alike.method?]
    exact Option.some.inj (hc₂.symm.trans (h1.trans h.code))
  subst hcc
  have hlen : len₂ = len := by rw [hdg] at hd₂; cases hd₂; rfl
  subst hlen
  obtain ⟨g₀, hg0⟩ := Option.isSome_iff_exists.mp h.top
  obtain ⟨r, hr⟩ := State.topJava?_eq_some.mp hg0
  have hs₂ : s₂ = (({ U with heap := s₂.heap, slotsUsed := s₂.slotsUsed } : State).setVm s₂.vm).setTop { g with pc := g.pc + len₂, stack := v.toList ++ g.stack } := by
    have hr' : (({ U with heap := s₂.heap, slotsUsed := s₂.slotsUsed } : State).setVm s₂.vm).frames = .java g₀ :: r := hr
    refine e3.trans ?_
    rw [hf₂, State.calling_eq h.top, State.setFrames_setFrames, State.setTop_of_frames _ hr', hr]
    rfl
  have hsame : U.sameButNew ({ U with heap := s₂.heap, slotsUsed := s₂.slotsUsed } : State) L mc ms := by
    refine ⟨?_, q2, q3, q4, q5, q6⟩
    obtain ⟨t, ht, -⟩ := State.frames_cons hr
    show ({ U with heap := s₂.heap, slotsUsed := s₂.slotsUsed } : State) = { U.setFrames U.frames with heap := s₂.heap, slotsUsed := s₂.slotsUsed }
    rw [State.setFrames_self ht]
  subst hg
  refine ⟨v, ⟨(({ U with heap := s₂.heap, slotsUsed := s₂.slotsUsed } : State).setVm s₂.vm), Ls ++ L, c0 + mc, s0 + ms⟩,
    ⟨X.admits, X.cas, X.clock, X.frames, X.room, X.hears, X.method, X.code, (X.here.setHeapUsed s₂.heap s₂.slotsUsed).setVm hW'.alike, X.tail, State.WarmedH.trans X.warmed hW', X.limits, X.bytes, X.same.trans (hsame.setVm s.vm)⟩,
    ⟨g, mk, s₂, L, rfl, rfl, hqq, rfl, hL, rfl, rfl⟩, ?_⟩
  show Steps p.tables e below _ ((({ U with heap := s₂.heap, slotsUsed := s₂.slotsUsed } : State).setVm s₂.vm).setTop { g with pc := g.pc + len₂, stack := v.toList ++ g.stack })
  rw [← hs₂]
  exact hsteps
