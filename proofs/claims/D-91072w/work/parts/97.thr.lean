/-! ends by a throw: contracts, the throwing row, calls that throw, catching -/
def FEt (first : State) (o : Outcome) (t : State) (L : List Loc) (k n : Nat) : Prop := (∃ x, o = .threw x) ∧ first.WarmedH t.vm ∧ first.sameButNew ({ t with vm := first.vm } : State) L k n
def MetT (l : Launch) (y : MethodName) (ws : List Cond) (rm : Room) (Pc : Array Value → State → Prop) (Qc : Array Value → State → Outcome → State → Prop) (mc ms : Nat) (free : Addr → Prop) : Prop :=
  MetFree l y (headSpec ws rm) Pc (fun _ _ _ _ _ => True) (fun a st o t => Qc a st o t ∧ ∃ L, FEt st o t L mc ms ∧ ∀ q ∈ L, free q.base)
def MQt (below : List Frame) (Qc : Array Value → State → Outcome → State → Prop) (a : Array Value) (s : State) (mc ms : Nat) (free : Addr → Prop) : State → Prop := fun t =>
  ∃ o, t.status = .running ∧ Ended t below o ∧ Qc a s o t ∧ ∃ L, FEt s o t L mc ms ∧ ∀ q ∈ L, free q.base
theorem MetT.ofW {l : Launch} {y : MethodName} {ws ws' : List Cond} {rm : Room} {Pc : Array Value → State → Prop} {Qc : Array Value → State → Outcome → State → Prop} {mc ms : Nat} {free : Addr → Prop} {cc : ByteArray} {maxL : Nat} {ret : Option FieldType}
    (hy : plainName y.cls = true) (hw : ws = Cond.code y cc maxL ret :: ws')
    (body : ∀ p e s m args below meth c s₁, BodyLoose p l y (headSpec ws rm) cc maxL ret e s m args below meth c s₁ → c.maxLocals = maxL → c.exceptionTable.isEmpty = true → Pc args s →
      W p l e (headSpec ws rm).room s m args below meth c s.heap [] 0 0 (MQt below Qc args s mc ms free) (entryFrame m args maxL)) : MetT l y ws rm Pc Qc mc ms free := by
  refine MetFree.of_bodyS (code := cc) (maxLocals := maxL) (ret := ret) hy ?_ ?_
  · intro args s m h hn
    obtain ⟨meth, c, h1, h2, h3, h4, h5, h6, -, -⟩ := Cond.code_spec hn (atoms_spec (ws := ws) h _ (by rw [hw]; exact List.mem_cons_self))
    exact ⟨meth, c, h1, h2, h3, h4, h5, h6⟩
  · intro p e s m args below meth c s₁ B hml hP _
    have hh0 : s₁.heap = s.heap := by rw [B.state]; rfl
    have hne := B.noHandlers (atoms_spec (ws := ws) B.pre _ (by rw [hw]; exact List.mem_cons_self))
    obtain ⟨t, a1, o, b1, b2, b3⟩ := body p e s m args below meth c s₁ B hml hne hP s₁ hh0 (Stand.of_body B)
    exact ⟨t, o, a1, b1, b2, ⟨b3.1, b3.2⟩⟩
theorem out_nil {c : Code} (h : c.exceptionTable.isEmpty = true) (pc : Nat) : ∀ x ∈ c.exceptionTable.toList, covers x pc = false := by
  have h0 : c.exceptionTable.size = 0 := by simpa [Array.isEmpty] using h
  have h1 : c.exceptionTable.toList = [] := List.eq_nil_of_length_eq_zero (by simpa using h0)
  intro y hy
  rw [h1] at hy
  cases hy
/-- a callee that throws, behind its invocation -/
theorem pay_T {p : Program} {l : Launch} {e : Env} {R : Room} {s : State} {m : MethodId} {args : Array Value} {below : List Frame} {meth : Method} {c : Code} {T : State} {locs : List Loc} {cells slots : Nat} {y : MethodName} {ws : List Cond} {rm : Room} {Pc : Array Value → State → Prop} {Qc : Array Value → State → Outcome → State → Prop} {mc ms : Nat} {free : Addr → Prop} {bytes : ByteArray} {maxL : Nat} {ret : Option FieldType}
    (X : Stand p l e R s m args below meth c T locs cells slots) (hM : MetT l y ws rm Pc Qc mc ms free) (hrc : rm.cells = mc) (hrs : rm.slots = ms) (hfr : rm.frames + 1 ≤ R.frames) (hlo : 8 + (maxL + 11) + rm.locals ≤ R.locals)
    (hws : ∀ w ∈ ws, ∀ a' U, s.WarmedH U.vm → w.before a' U = true) (hcode : Cond.code y bytes maxL ret ∈ ws) (hinit : ∀ a' U, s.WarmedH U.vm → (Cond.initialized y.cls).before a' U = true)
    {g : JFrame} {ig : Instr} {len : Nat} {mk : MethodId} {a : Array Value} (hg : g.method = m) (hsize : g.locals.size = c.maxLocals) (hdg : decode c.code g.pc = .ok (ig, len)) (hW : 2 * g.monitorRoom + (g.stack.map fun v => v.category).sum ≤ 8) (hn : T.methodNamed? y = some mk)
    (hc : cells + mc ≤ R.cells) (hs : slots + ms ≤ R.slots) (hP : Pc a (T.calling g mk a)) :
    ∃ (x : Addr) (t T' : State) (L : List Loc), Stand p l e R s m args below meth c T' (locs ++ L) (cells + mc) (slots + ms) ∧ (∀ q ∈ L, free q.base) ∧ T'.heap = t.heap ∧ Qc a (T.calling g mk a) (.threw x) t ∧ Steps p.tables e below (doInvoke e (T.setTop g) [] mk a).1 ((T'.setTop g).pushFrame (.throwing x)) := by
  obtain ⟨methY, cY, hmY, hcY, -, hlY, -, -, -, -⟩ := Cond.code_spec hn (hws _ hcode a T X.warmed)
  obtain ⟨kY, hkY, -⟩ := className_of_methodNamed hn
  have hinitY : kY.init = .initialized := Cond.initialized_spec (findClass_of_methodNamed hn) hkY (hinit a T X.warmed)
  have h : At T g.method c below := by rw [hg]; exact X.here
  have happ : (headSpec ws rm).appliesLoose y e.platform (T.calling g mk a) = true :=
    Spec.appliesLoose_calling (g := g) h hdg hn hkY hinitY
      (X.room_calling (g := g) (R' := (headSpec ws rm).room) hsize hmY hcY hfr (by rw [hlY]; have : (headSpec ws rm).room.locals = rm.locals := rfl; omega) (by rw [show (headSpec ws rm).room.cells = mc from hrc]; exact hc) (by rw [show (headSpec ws rm).room.slots = ms from hrs]; exact hs)) (atoms_intro fun w hw => hws w hw _ _ X.warmed)
  obtain ⟨g₀, hfe⟩ := X.frames_eq
  have hfr2 : (T.setTop g).frames = (.java g :: []) ++ below := by rw [State.frames_setTop _ hfe]; rfl
  obtain ⟨o, s₂, hsteps, -, hend, hq⟩ := Steps.callFree hM p X.admits X.cas X.clock (acts := []) hfr2 happ hP trivial
  obtain ⟨hqc, L, ⟨⟨x, rfl⟩, hW₂, hsame⟩, hL⟩ := hq
  have hend : Ended s₂ (.java g :: below) (.threw x) := by rw [hfr2] at hend; exact hend
  obtain ⟨T', X', -, -, ht⟩ := X.outOfThrown hg hend hW₂ hsame
  refine ⟨x, s₂, T', L, X', hL, ?_, hqc, by rw [← ht]; exact hsteps⟩
  rw [ht]
  exact (Stand.throwing_heap T' g x).symm
/-! the judgement's ends -/
def qt (w : Wd) (Q : Nat → Sh → Mi → Ml → Prop) : Array Value → State → Outcome → State → Prop := fun _ _ o t => ∃ (x : Nat) (S : Sh) (I : Mi) (J : Ml), o = .threw (rho w x) ∧ Rep w t.heap S I J ∧ Q x S I J
def Zt (w : Wd) (κ : Cx) (Q : Nat → Sh → Mi → Ml → Prop) : State → Prop := MQt κ.2.2.2.2.2.2.2.1 (qt w Q) κ.2.2.2.2.2.2.1 κ.2.2.2.2.1 κ.2.2.2.1.cells κ.2.2.2.1.slots (fun q => wz w ≤ q)
/-- no handlers -/
def NH (κ : Cx) : Prop := κ.2.2.2.2.2.2.2.2.2.exceptionTable.isEmpty = true
def CtT (w : Wd) (l : Launch) (y : MethodName) (cc : ByteArray) (nL : Nat) (rt : Option FieldType) (d mc ms : Nat) (av : List Value) (S : Sh) (I : Mi) (J : Ml) (Q : Nat → Sh → Mi → Ml → Prop) : Prop :=
  MetT l y (ws_ y cc nL rt) (rmx d mc ms) (fun v U => v = (av.map (cv w)).toArray ∧ Rep w U.heap S I J ∧ Kn w U) (qt w Q) mc ms (fun q => wz w ≤ q)
theorem CtT.of {w : Wd} {l : Launch} {y : MethodName} {cc : ByteArray} {nL : Nat} {rt : Option FieldType} {d mc ms : Nat} {av : List Value} {S : Sh} {I : Mi} {J : Ml} {Q : Nat → Sh → Mi → Ml → Prop} (L : List (Option Value)) (hL : entL av ++ List.replicate (nL - (entL av).length) none = L) (hl : (entL av).length ≤ nL) (hy : plainName y.cls = true)
    (body : ∀ κ : Cx, κ.2.1 = l → NH κ → Cok w y cc nL rt d mc ms κ → XX w κ (Zt w κ Q) 0 0 0 L [] S I J) : CtT w l y cc nL rt d mc ms av S I J Q := by
  unfold CtT
  refine MetT.ofW (cc := cc) (maxL := nL) (ret := rt) hy rfl ?_
  intro p e s m args below meth c s₁ B hml hne hv
  obtain ⟨rfl, hR, hK⟩ := hv
  have hts := atoms_spec (ws := ws_ y cc nL rt) B.pre
  have hts : ∀ x ∈ lw_all, x.before _ s = true := fun x h => hts x (List.mem_cons_of_mem _ h)
  have hle := lv_entry (av.map (cv w)) (n := nL) (by rw [entL_len]; exact hl)
  rw [lg_entry_eq]
  refine body (p, l, e, (headSpec (ws_ y cc nL rt) (rmx d mc ms)).room, s, m, (av.map (cv w)).toArray, below, meth, c) rfl hne ⟨B.exec, B.bytes, hml, findClass_of_methodNamed B.named, hts, hK, B.returns, B.notSynchronized, rfl, (name_of_methodNamed B.named B.method).1⟩ s.heap [] _ hR (fun q h => by cases h) ?_
  show LR w _ c.maxLocals L
  rw [hml]
  refine LR.of hle fun i v hi => ?_
  rw [← hL] at hi
  have := entL_mem w av 0 i v (by
    by_cases hlt : i < (entL av).length
    · rw [List.getElem?_append_left hlt] at hi
      exact hi
    · rw [List.getElem?_append_right (by omega)] at hi
      have := List.mem_of_getElem? hi
      have := (List.mem_replicate.mp this).2
      cases this)
  simpa using this
section Thr
variable {w : Wd} {κ : Cx} {Z : State → Prop} {y : MethodName} {cc : ByteArray} {nL d mc ms : Nat} {rt : Option FieldType} {cs sl pc n : Nat} {L L' : List (Option Value)} {sk : List Value} {S : Sh} {I : Mi} {J : Ml}
theorem x_athrow {Q : Nat → Sh → Mi → Ml → Prop} (C : Cok w y cc nL rt d mc ms κ) (hN : NH κ) {a : Nat} (hd : decode cc pc = .ok (.athrow, 1)) (hc : cs ≤ mc) (hs : sl ≤ ms) (hq : Q a S I J) : XX w κ (Zt w κ Q) cs sl pc L (.ref a :: sk) S I J := by
  intro hp locs ls hR hL hl T hT X
  obtain ⟨p, l, e, R, s, m, args, below, meth, c⟩ := κ
  obtain ⟨hx, hb, -, -, -, -, -, hlk, hRm, -⟩ := C
  have hRm : R = rmx d mc ms := hRm
  have hb : c.code = cc := hb
  have hN : c.exceptionTable.isEmpty = true := hN
  have X : Stand p l e R s m args below meth c T locs cs sl := X
  subst hRm
  obtain ⟨h1, h2, h3, h4, h5⟩ := (stand_widen X hc hs).athrowLeaves hx (g := F0 m pc ls ((.ref (rho w a)) :: sk.map (cv w))) rfl rfl rfl (out_nil hN _) rfl (by rw [hb]; exact hd) hlk
  refine ⟨_, h1, .threw (rho w a), h2, h3, ⟨a, S, I, J, rfl, ?_, hq⟩, locs, ⟨⟨_, rfl⟩, h4, h5⟩, hL⟩
  show Rep w T.heap S I J
  rw [hT]
  exact hR
/-- a call through an object, that throws: the run behind it -/
theorem run_VT {y' : MethodName} {cc' : ByteArray} {nL' d' mc' ms' idx ci k b : Nat} {rt' : Option FieldType} {Q : Nat → Sh → Mi → Ml → Prop} {p : Program} {l : Launch} {e : Env} {R : Room} {s : State} {m : MethodId} {args : Array Value} {below : List Frame} {meth : Method} {c : Code} (C : Cok w y cc nL rt d mc ms (p, l, e, R, s, m, args, below, meth, c)) (hM : MV y.cls idx ci y' cc' nL' rt' k) (hd : decode cc pc = .ok (.invokevirtual idx, 3)) (As rest : List Value) (hAn : As.length = k) (hT : S.1 b = ci)
    (hroom : (rest.map fun v => v.category).sum ≤ 8) (hdd : d' + 1 ≤ d) (hc : cs + mc' ≤ mc) (hs : sl + ms' ≤ ms) (hct : CtT w l y' cc' nL' rt' d' mc' ms' (.ref b :: As) S I J Q) {hp : Heap} {locs : List Loc} {ls : Array Slot} (hR : Rep w hp S I J) (hl : ls.size = nL) {T : State} (hTh : T.heap = hp) (X : Stand p l e R s m args below meth c T locs cs sl) :
    ∃ (x : Nat) (S' : Sh) (I' : Mi) (J' : Ml) (T' : State) (L2 : List Loc), Q x S' I' J' ∧ Rep w T'.heap S' I' J' ∧ Stand p l e R s m args below meth c T' (locs ++ L2) (cs + mc') (sl + ms') ∧ (∀ q ∈ L2, wz w ≤ q.base) ∧
      ∀ target, Steps p.tables e below ((T'.setTop (F0 m pc ls (rest.map (cv w)))).pushFrame (.throwing (rho w x))) target → Steps p.tables e below (T.setTop (F0 m pc ls ((As.reverse ++ .ref b :: rest).map (cv w)))) target := by
  obtain ⟨hG, hds, hci, ⟨q, hq1, hq2⟩, hnl⟩ := hM
  have hlt : b < S.2.2.2 := hR.lt hT (by omega)
  obtain ⟨r, hr, hOB⟩ := (hR.2.2.1 b hlt).1 (by omega)
  rw [hT] at hr hOB
  cases hq1.symm.trans hr
  have hrho : rho w b = wz w + b := rho_of hR hT (by omega)
  obtain ⟨hx, hb, hml, hown, hts, hK, -, -, hRm, -⟩ := C
  have hx : p.tables.exec = Jvm.exec := hx
  have hb : c.code = cc := hb
  have hml : c.maxLocals = nL := hml
  have hown : s.vm.findClass y.cls = some m.cls := hown
  have hts : ∀ x ∈ lw_all, x.before args s = true := hts
  have hK : Kn w s := hK
  have hRm : R = rmx d mc ms := hRm
  obtain ⟨hS, hfc, -⟩ := hK.1.1 ci _ hq1
  obtain ⟨cell, g1, g2, g3, -⟩ := hOB
  have cw := cwV (R := R) (s := s) (args := args) (own := y.cls) (C := y'.cls) (index := idx) (y := y') (bytes := cc') (maxL := nL') (ret := rt') (ws := ws_ y' cc' nL' rt') (rm := rmx d' mc' ms') (mc := mc') (ms := ms') k hts hG rfl rfl rfl ⟨rfl, hds⟩ (by rw [hRm]; exact ⟨hdd, by show 8 + (nL' + 11) + 41 * d' ≤ 41 * d; omega⟩)
  obtain ⟨⟨hrc, hrs, hfr, hlo, hws, hcw, hcode, hini, hy, hlen, hlk⟩, hin, hse⟩ := cw
  obtain ⟨mk, methM, hnamed, hmethM, hstM, habM⟩ := Cond.instanceMethod_spec hin
  obtain ⟨methM', cM, hmethM', -, -, -, -, -, -, hsigM⟩ := Cond.code_spec hnamed hcode
  cases hmethM.symm.trans hmethM'
  obtain ⟨c2, r2, m2, q1, q2, q3, q4, kP, hkP, hkPi⟩ := Cond.selects_spec hse
  have hcls : s.vm.findClass y'.cls = some cell.cls := by rw [g2]; rw [← hq2]; exact hfc
  cases hcls.symm.trans q1
  cases (State.methodFound?_of_named hnamed hy).symm.trans q2
  cases hnamed.symm.trans q3
  have hselP : selectMethod e.platform s.vm cell.cls mk = .method mk := by rw [Launch.admits_selectMethod X.admits]; exact q4
  have hsk2 : ((As.reverse ++ .ref b :: rest).map (cv w)) = (As.map (cv w)).reverse ++ .ref (wz w + b) :: rest.map (cv w) := by
    rw [List.map_append, List.map_reverse, List.map_cons, ← hrho]
    rfl
  have hrest : ((rest.map (cv w)).map fun v => v.category) = rest.map fun v => v.category := by
    rw [List.map_map]
    exact List.map_congr_left (fun v _ => cv_cat w v)
  have hav : (Value.ref (wz w + b) :: As.map (cv w)).toArray = (((.ref b :: As : List Value)).map (cv w)).toArray := by
    rw [List.map_cons]
    show _ = (Value.ref (rho w b) :: As.map (cv w)).toArray
    rw [hrho]
  rw [hsk2]
  obtain ⟨vm₁, X₁, hstep₁⟩ := X.invokevirtual hx hown hlk hnamed hmethM hstM hkP hkPi hy (a := wz w + b) (cell := cell) (by rw [hTh]; exact g1)
    (fun z h => by rw [g3] at h; cases h) hselP hmethM habM hkP hkPi (g := F0 m pc ls ((As.map (cv w)).reverse ++ .ref (wz w + b) :: rest.map (cv w))) rfl (argsL := As.map (cv w)) (rest := rest.map (cv w)) (by rw [List.length_map, hAn]; exact hlen _ hsigM) rfl (by rw [hb]; exact hd)
  obtain ⟨x, t, T', L2, X', hL2, ht, ⟨x', S', I', J', hx', hR', hQ⟩, hsteps⟩ := pay_T X₁ hct hrc hrs hfr hlo hws hcw (fun a' U hW => word_at hW (Or.inl (by first | rfl | simp [Cond.onTables, Cond.keeps, Cond.steady])) hini) (g := F0 m pc ls (rest.map (cv w))) (ig := .invokevirtual idx) (len := 3) (mk := mk) (a := (Value.ref (wz w + b) :: As.map (cv w)).toArray) rfl (by rw [hml]; exact hl) (by rw [hb]; exact hd) (lv_room (by rw [hrest]; exact hroom)) (X₁.named hnamed) (by rw [hRm]; exact hc) (by rw [hRm]; exact hs)
    (ct_blind w (.ref b :: As) S I J _ _ _ _ ⟨hav, by show Rep w T.heap S I J; rw [hTh]; exact hR, hK.warm X₁.warmed⟩)
  cases hx'
  exact ⟨x', S', I', J', T', L2, hQ, by rw [ht]; exact hR', X', hL2, fun target h => hstep₁ _ fun acts => by rw [doInvoke_state]; exact hsteps.trans h⟩
/-- a call that throws, in a method that has no handlers -/
theorem x_callVT (C : Cok w y cc nL rt d mc ms κ) (hN : NH κ) {y' : MethodName} {cc' : ByteArray} {nL' d' mc' ms' idx ci k b : Nat} {rt' : Option FieldType} {Q Q' : Nat → Sh → Mi → Ml → Prop} (hM : MV y.cls idx ci y' cc' nL' rt' k) (hd : decode cc pc = .ok (.invokevirtual idx, 3)) (As rest : List Value) (hsk : sk = As.reverse ++ .ref b :: rest) (hAn : As.length = k) (hT : S.1 b = ci)
    (hroom : (rest.map fun v => v.category).sum ≤ 8) (hdd : d' + 1 ≤ d) (hc : cs + mc' ≤ mc) (hs : sl + ms' ≤ ms) (hct : CtT w κ.2.1 y' cc' nL' rt' d' mc' ms' (.ref b :: As) S I J Q')
    (kk : ∀ (x : Nat) (S' : Sh) (I' : Mi) (J' : Ml), Q' x S' I' J' → Q x S' I' J') : XX w κ (Zt w κ Q) cs sl pc L sk S I J := by
  intro hp locs ls hR hL hl T hTh X
  subst hsk
  obtain ⟨p, l, e, R, s, m, args, below, meth, c⟩ := κ
  have hlk : meth.locks = false := C.2.2.2.2.2.2.2.1
  have hRm : R = rmx d mc ms := C.2.2.2.2.2.2.2.2.1
  have hml : c.maxLocals = nL := C.2.2.1
  have hN : c.exceptionTable.isEmpty = true := hN
  have hl : LR w ls c.maxLocals L := hl
  have X : Stand p l e R s m args below meth c T locs cs sl := X
  obtain ⟨x, S', I', J', T', L2, hQ, hR', X', hL2, st⟩ := run_VT C hM hd As rest hAn hT hroom hdd hc hs hct hR (by rw [← hml]; exact hl.1) hTh X
  obtain ⟨h1, h2, h3, h4, h5⟩ := (stand_widen X' hc hs).leaveThrown (rho w x) (g := F0 m pc ls (rest.map (cv w))) rfl rfl rfl (out_nil hN _) hlk
  subst hRm
  refine ⟨_, st _ h1, .threw (rho w x), h2, h3, ⟨x, S', I', J', rfl, hR', kk x S' I' J' hQ⟩, locs ++ L2, ⟨⟨_, rfl⟩, h4, h5⟩, fun q hq => ?_⟩
  rcases List.mem_append.mp hq with h | h
  · exact hL q h
  · exact hL2 q h
end Thr
