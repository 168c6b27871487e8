/-! ===== the general contract: it returns or throws, counts what it makes, asks no word on its class's initialisation ===== -/
def GQ (below : List Frame) (Qc : Array Value → State → Outcome → State → Nat → Nat → Prop) (a : Array Value) (s : State) (free : Addr → Prop) : State → Prop := fun t =>
  ∃ o L k n, t.status = .running ∧ Ended t below o ∧ Qc a s o t k n ∧ s.WarmedH t.vm ∧ s.sameButNew ({ t with vm := s.vm } : State) L k n ∧ ∀ q ∈ L, free q.base
def Mg (l : Launch) (y : MethodName) (ws : List Cond) (rm : Room) (Pc : Array Value → State → Prop) (Qc : Array Value → State → Outcome → State → Nat → Nat → Prop) (free : Addr → Prop) : Prop :=
  ∀ (p : Program) (e : Env), l.admits e → FairCas e.choices → FairClock e.choices → ∀ (s : State) (m : MethodId) (args : Array Value) (below : List Frame),
    s.frames = .invoking m args :: below → s.status = .running → s.curStatus? = some .runnable → s.alone = true → s.methodNamed? y = some m → s.hears m below = true → s.hasRoom e.platform rm = true → (∀ w ∈ ws, w.before args s = true) → Pc args s →
    ∃ n, (∀ k, k < n → Within (stepsAlone p.tables e k s) below) ∧ GQ below Qc args s free (stepsAlone p.tables e n s)
/-- out of a walk of the body -/
theorem Mg.ofW {l : Launch} {y : MethodName} {ws : List Cond} {rm : Room} {Pc : Array Value → State → Prop} {Qc : Array Value → State → Outcome → State → Nat → Nat → Prop} {free : Addr → Prop} {cc : ByteArray} {maxL : Nat} {ret : Option FieldType} {hh : List (Nat × Nat × Nat × Nat)}
    (hy : plainName y.cls = true)
    (his : ∀ args (s : State) m, (∀ w ∈ ws, w.before args s = true) → s.methodNamed? y = some m → ∃ meth c, s.vm.method? m = some meth ∧ meth.code = some c ∧ c.code = cc ∧ c.maxLocals = maxL ∧ meth.sig.returnType = ret ∧ meth.locks = false ∧ c.exceptionTable.toList.map (fun h => (h.startPc, h.endPc, h.handlerPc, h.catchType)) = hh)
    (body : ∀ p e s m args below meth c, p.tables.exec = Jvm.exec → c.code = cc → meth.sig.returnType = ret → meth.locks = false → c.maxLocals = maxL → s.vm.findClass y.cls = some m.cls → meth.name = y.name → c.exceptionTable.toList.map (fun h => (h.startPc, h.endPc, h.handlerPc, h.catchType)) = hh → (∀ w ∈ ws, w.before args s = true) → Pc args s →
      W p l e rm s m args below meth c s.heap [] 0 0 (GQ below Qc args s free) (entryFrame m args maxL)) : Mg l y ws rm Pc Qc free := by
  intro p e ha hc hk s m args below hf hrun hable halone hname hhears hroom hws hP
  obtain ⟨meth, c, hmeth, hcode, hbytes, hlocals, hret, hlocks, hex⟩ := his args s m hws hname
  have hcur := State.cur_lt_of_frames hf
  have hf1 : (s.setFrames (.java (entryFrame m args maxL) :: below)).frames = .java (entryFrame m args maxL) :: below := State.frames_setFrames _ hcur
  have ht1 := State.topJava?_of_frames hf1
  have hplain : (s.setFrames (.java (entryFrame m args maxL) :: below)).plainMethod m := by
    refine State.plainMethod.of_name ?_
    intro k hk
    obtain ⟨k', hk', hn⟩ := className_of_methodNamed hname
    cases (show s.vm.classes[m.cls]? = some k from hk).symm.trans hk'
    rw [hn]; exact hy
  have hAt : At (s.setFrames (.java (entryFrame m args maxL) :: below)) m c below :=
    ⟨by rw [ht1]; rfl, ⟨[], by rw [hf1]; rfl⟩, hrun, by simpa using hable, by simpa using halone, by rw [State.code?_eq]; simp [State.setFrames, hmeth, hcode], hplain⟩
  have hstep : (stepThread p.tables e s).1 = (s.setFrames (.java (entryFrame m args maxL) :: below)).setTop (entryFrame m args maxL) := by
    have hfull : e.platform.stackFull (s.setFrames below).me (s.setFrames below).frames c.maxLocals = false := by
      obtain ⟨-, h1, -, h2⟩ := State.hasRoom_stack hroom
      rw [hf, List.length_cons] at h1
      rw [State.localsInUse_invoking hf hmeth hcode] at h2
      have hw := stackUse_le_stackWeight below
      rw [State.frames_setFrames _ hcur]
      exact Platform.stackFull_eq_false (by rw [State.stackLimits_setFrames]; omega) (by rw [State.stackLimits_setFrames]; omega)
    rw [stepThread_invoking hf, (doInvoke_java (s := s.setFrames below) (e := e) (meth := meth) (code := c) hmeth hcode hlocks hfull).1, State.setTop_self ht1]
    simp only [State.pushFrame, State.frames_setFrames _ hcur, State.setFrames_setFrames, hlocals, entryFrame]
  obtain ⟨t0, ht0, -⟩ := State.frames_cons hf
  have X : Stand p l e rm s m args below meth c (s.setFrames (.java (entryFrame m args maxL) :: below)) [] 0 0 :=
    ⟨ha, hc, hk, hf, hroom, hhears, hmeth, hcode, hAt, by rw [hf1]; rfl, State.WarmedH.refl s, by rw [State.stackLimits_setFrames], by rw [State.stackBytes_setFrames], (State.sameButNew.refl s ht0).setFrames (.java (entryFrame m args maxL) :: below) hcur⟩
  obtain ⟨s₂, hst, hq⟩ := body p e s m args below meth c (by cases p <;> rfl) hbytes hret hlocks hlocals (findClass_of_methodNamed hname) (name_of_methodNamed hname hmeth).1 hex hws hP (s.setFrames (.java (entryFrame m args maxL) :: below)) rfl X
  have hst' : Steps p.tables e below s s₂ := Steps.head (tb := p.tables) (e := e) ⟨hrun, hable, halone⟩ ⟨[.invoking m args], hf, by simp, by simp⟩ (hstep ▸ hst)
  obtain ⟨n, hn, hw⟩ := hst'
  exact ⟨n, hw, hn ▸ hq⟩
/-- the plain code word gives the body, with no handler -/
theorem his_code {y : MethodName} {cc : ByteArray} {maxL : Nat} {ret : Option FieldType} {ws' : List Cond} (args : Array Value) (s : State) (m : MethodId) (h : ∀ w ∈ (Cond.code y cc maxL ret :: ws'), w.before args s = true) (hn : s.methodNamed? y = some m) : ∃ meth c, s.vm.method? m = some meth ∧ meth.code = some c ∧ c.code = cc ∧ c.maxLocals = maxL ∧ meth.sig.returnType = ret ∧ meth.locks = false ∧ c.exceptionTable.toList.map (fun h => (h.startPc, h.endPc, h.handlerPc, h.catchType)) = [] := by
  obtain ⟨meth, c, h1, h2, h3, h4, h5, h6, h7, -⟩ := Cond.code_spec hn (h _ List.mem_cons_self)
  refine ⟨meth, c, h1, h2, h3, h4, h5, h6, ?_⟩
  have : c.exceptionTable = #[] := by simpa using h7
  rw [this]
  rfl
theorem his_with {y : MethodName} {cc : ByteArray} {maxL : Nat} {ret : Option FieldType} {hh : List (Nat × Nat × Nat × Nat)} {ws' : List Cond} (args : Array Value) (s : State) (m : MethodId) (h : ∀ w ∈ (Cond.codeWith y cc maxL ret hh :: ws'), w.before args s = true) (hn : s.methodNamed? y = some m) : ∃ meth c, s.vm.method? m = some meth ∧ meth.code = some c ∧ c.code = cc ∧ c.maxLocals = maxL ∧ meth.sig.returnType = ret ∧ meth.locks = false ∧ c.exceptionTable.toList.map (fun h => (h.startPc, h.endPc, h.handlerPc, h.catchType)) = hh := by
  obtain ⟨m', meth, c, h0, h1, h2, h3, h4, h5, h6, h7, -⟩ := Cond.codeWith_spec (h _ List.mem_cons_self)
  cases h0.symm.trans hn
  exact ⟨meth, c, h1, h2, h3, h4, h6, h7, h5⟩
section ZG
variable {p : Program} {l : Launch} {e : Env} {R : Room} {s : State} {m : MethodId} {args : Array Value} {below : List Frame} {meth : Method} {c : Code} {T : State} {locs : List Loc} {cells slots : Nat}
variable {y : MethodName} {ws : List Cond} {rm : Room} {Pc : Array Value → State → Prop} {Qc : Array Value → State → Outcome → State → Nat → Nat → Prop} {free : Addr → Prop}
theorem zg_run {e : Env} (p : Program) {s : State} {m : MethodId} {args : Array Value} {acts : List Action} {mid below : List Frame} {G : State → Prop}
    (hfr : s.frames = mid ++ below) (hlt : s.cur < s.threads.size) (hgo : (s.pushFrame (.invoking m args)).goesOn) (hG : ∀ t, G t → ∃ o, Ended t s.frames o)
    (hrun₀ : ∃ n, (∀ k, k < n → Within (stepsAlone p.tables e k (s.pushFrame (.invoking m args))) s.frames) ∧ G (stepsAlone p.tables e n (s.pushFrame (.invoking m args)))) :
    ∃ s₂, Steps p.tables e below (doInvoke e s acts m args).1 s₂ ∧ G s₂ := by
  obtain ⟨t, ht⟩ : ∃ t, s.threads[s.cur]? = some t := ⟨_, Array.getElem?_eq_getElem hlt⟩
  have hf' : (s.pushFrame (.invoking m args)).frames = .invoking m args :: s.frames := State.frames_setFrames _ hlt
  obtain ⟨n, hw, hg⟩ := hrun₀
  have hstep : (stepThread p.tables e (s.pushFrame (.invoking m args))).1 = (doInvoke e s acts m args).1 := by
    rw [stepThread_invoking hf', doInvoke_state e s acts, State.pushFrame, State.setFrames_setFrames, State.setFrames_self ht]
  cases n with
  | zero =>
    obtain ⟨o, ho⟩ := hG _ hg
    exact absurd ⟨[.invoking m args], hf', by simp, by simp⟩ ho.not_within
  | succ k =>
    rw [stepsAlone_succ _ hgo, hstep] at hg
    refine ⟨_, ⟨k, rfl, fun j hj => ?_⟩, hg⟩
    have := hw (j + 1) (by omega)
    rw [stepsAlone_succ _ hgo, hstep, hfr] at this
    exact this.weaken
/-- a call by the general contract, behind the instruction's own step -/
theorem zg_back (X : Stand p l e R s m args below meth c T locs cells slots) {g : JFrame} (hg : g.method = m) (hsize : g.locals.size = c.maxLocals) {ig : Instr} {len : Nat} (hdg : decode c.code g.pc = .ok (ig, len)) {mk : MethodId} {methY : Method} {cY : Code} (hn : T.methodNamed? y = some mk) (hmY : T.vm.method? mk = some methY) (hcY : methY.code = some cY) {a : Array Value}
    (hM : Mg l y ws rm Pc Qc free) (hws : ∀ w ∈ ws, w.before a T = true) (hfr : rm.frames + 1 ≤ R.frames) (hlo : 2 * g.monitorRoom + (g.stack.map fun v => v.category).sum + (cY.maxLocals + 11) + rm.locals ≤ R.locals) (hcl : cells + rm.cells ≤ R.cells) (hsl : slots + rm.slots ≤ R.slots) (hP : Pc a (T.calling g mk a)) :
    ∃ o t L k n, Qc a (T.calling g mk a) o t k n ∧ (∀ q ∈ L, free q.base) ∧ ∃ T' : State, T'.heap = t.heap ∧ T'.vm = t.vm ∧ T.WarmedH t.vm ∧ Stand p l e R s m args below meth c T' (locs ++ L) (cells + k) (slots + n) ∧
      ((∃ v, o = .returned v ∧ Steps p.tables e below (doInvoke e (T.setTop g) [] mk a).1 (T'.setTop { g with pc := g.pc + len, stack := v.toList ++ g.stack })) ∨ (∃ x, o = .threw x ∧ Steps p.tables e below (doInvoke e (T.setTop g) [] mk a).1 ((T'.setTop g).pushFrame (.throwing x)))) := by
  have h : At T g.method c below := by rw [hg]; exact X.here
  obtain ⟨mid, hmid⟩ := h.above
  have hfr' : (T.setTop g).frames = (.java g :: mid) ++ below := by rw [State.frames_setTop' g h.top, hmid]; rfl
  have hcode : (T.calling g mk a).code? g.method = some c := by
    have := h.code
    rw [State.code?_eq] at this ⊢
    simpa [State.calling, State.pushFrame, State.setFrames] using this
  have hrun : (T.calling g mk a).status = .running := h.running
  have hable : (T.calling g mk a).curStatus? = some .runnable := by simpa [State.calling] using h.runnable
  have halone : (T.calling g mk a).alone = true := by simpa [State.calling] using h.alone
  have hlt : (T.setTop g).cur < (T.setTop g).threads.size := State.cur_lt_of_frames (x := .java g) hfr'
  obtain ⟨s₂, hsteps, o, L, k, n, hrun2, hend, hq, hW₂, hsame, hL⟩ := zg_run (below := below) (acts := []) (G := GQ (T.setTop g).frames Qc a (T.calling g mk a) free) p hfr' hlt ⟨hrun, hable, halone⟩ (fun t ⟨o, _, _, _, _, h, _⟩ => ⟨o, h⟩)
    (hM p e X.admits X.cas X.clock (T.calling g mk a) mk a (T.setTop g).frames (by rw [State.frames_calling h.top g mk a, State.frames_setTop' g h.top]) hrun hable halone hn (by rw [State.frames_setTop' g h.top]; simp [State.hears, hcode, hdg, Except.toOption])
      (X.room_calling (g := g) (R' := rm) hsize hmY hcY hfr hlo hcl hsl) (fun w hw => by rw [State.calling_eq h.top, Cond.before_setFrames]; exact hws w hw) hP)
  rw [State.frames_setTop' g h.top] at hend
  obtain ⟨e2, q2, q3, q4, q5, q6⟩ := hsame
  have e3 : s₂ = ({ (T.calling g mk a).setFrames s₂.frames with heap := s₂.heap, slotsUsed := s₂.slotsUsed } : State).setVm s₂.vm := by
    have : s₂ = ({ s₂ with vm := (T.calling g mk a).vm } : State).setVm s₂.vm := rfl
    rw [e2] at this
    exact this
  have hW' : T.WarmedH s₂.vm := hW₂
  obtain ⟨g₀, hg0⟩ := Option.isSome_iff_exists.mp h.top
  obtain ⟨r, hr⟩ := State.topJava?_eq_some.mp hg0
  have hr' : (({ T with heap := s₂.heap, slotsUsed := s₂.slotsUsed } : State).setVm s₂.vm).frames = .java g₀ :: r := hr
  have hsame' : T.sameButNew ({ T with heap := s₂.heap, slotsUsed := s₂.slotsUsed } : State) L k n := by
    refine ⟨?_, q2, q3, q4, q5, q6⟩
    obtain ⟨t, ht, -⟩ := State.frames_cons hr
    show ({ T with heap := s₂.heap, slotsUsed := s₂.slotsUsed } : State) = { T.setFrames T.frames with heap := s₂.heap, slotsUsed := s₂.slotsUsed }
    rw [State.setFrames_self ht]
  have X' : Stand p l e R s m args below meth c (({ T with heap := s₂.heap, slotsUsed := s₂.slotsUsed } : State).setVm s₂.vm) (locs ++ L) (cells + k) (slots + n) :=
    ⟨X.admits, X.cas, X.clock, X.frames, X.room, X.hears, X.method, X.code, (X.here.setHeapUsed s₂.heap s₂.slotsUsed).setVm hW'.alike, X.tail, State.WarmedH.trans X.warmed hW', X.limits, X.bytes, X.same.trans (hsame'.setVm s.vm)⟩
  refine ⟨o, s₂, L, k, n, hq, hL, (({ T with heap := s₂.heap, slotsUsed := s₂.slotsUsed } : State).setVm s₂.vm), rfl, rfl, hW', X', ?_⟩
  cases o with
  | returned v =>
    obtain ⟨c₂, i₂, len₂, hc₂, hd₂, hf₂⟩ := hend
    have hcc : c₂ = c := by
      have h1 : s₂.code? g.method = T.code? g.method := by rw [State.code?_eq, State.code?_eq, hW'.alike.method?]
      exact Option.some.inj (hc₂.symm.trans (h1.trans h.code))
    subst hcc
    have hlen : len₂ = len := by rw [hdg] at hd₂; cases hd₂; rfl
    subst hlen
    have hs₂ : s₂ = (({ T with heap := s₂.heap, slotsUsed := s₂.slotsUsed } : State).setVm s₂.vm).setTop { g with pc := g.pc + len₂, stack := v.toList ++ g.stack } := by
      refine e3.trans ?_
      rw [hf₂, State.calling_eq h.top, State.setFrames_setFrames, State.setTop_of_frames _ hr', hr]
      rfl
    exact Or.inl ⟨v, rfl, by rw [← hs₂]; exact hsteps⟩
  | threw x =>
    have hf₂ : s₂.frames = .throwing x :: .java g :: T.frames.tail := hend
    have hs₂ : s₂ = ((({ T with heap := s₂.heap, slotsUsed := s₂.slotsUsed } : State).setVm s₂.vm).setTop g).pushFrame (.throwing x) := by
      refine e3.trans ?_
      rw [hf₂, State.calling_eq h.top, State.setFrames_setFrames, State.pushFrame, State.frames_setTop _ hr', State.setTop_of_frames _ hr', State.setFrames_setFrames, hr]
      rfl
    exact Or.inr ⟨x, rfl, by rw [← hs₂]; exact hsteps⟩
/-- the method throws, or lets a throw pass: none of its handlers covers the place -/
theorem zg_leave {H : Heap} {g : JFrame} {x : Addr} {a : Array Value} (hT : T.heap = H) (X : Stand p l e R s m args below meth c T locs cells slots) (hg : g.method = m) (hl : g.locked = none) (he : g.entered = []) (hlk : meth.locks = false) (hout : ∀ z ∈ c.exceptionTable.toList, covers z g.pc = false)
    (hq : ∀ t : State, t.heap = H → s.WarmedH t.vm → Qc args s (.threw x) t cells slots) (hf : ∀ q ∈ locs, free q.base) : ∃ t, Steps p.tables e below ((T.setTop g).pushFrame (.throwing x)) t ∧ GQ below Qc args s free t := by
  obtain ⟨h1, h2, h3, h4, h5⟩ := X.leaveThrown x (g := g) hg hl he hout hlk
  exact ⟨_, h1, .threw x, locs, cells, slots, h2, h3, hq _ hT h4, h4, h5, hf⟩
end ZG
