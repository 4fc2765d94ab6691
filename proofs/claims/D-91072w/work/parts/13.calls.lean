/-! new cells, ends, calls -/
def NL (own : String) (idx ci N : Nat) : Prop :=
  ∃ (C : String) (T : u_T) (tys : Nat → FieldType), xCl[ci]? = some (C, T, N) ∧ ci < 100 ∧ (∀ x ∈ u_ws C T N, x ∈ lw_all) ∧ (∀ j, j < N → parseFieldDescriptor (T j).2.2.1 = some (tys j)) ∧
  (∀ j, j < N → defaultValue (tys j) = (if fkd (T j).2.2.1 = 0 then .int 0 else if fkd (T j).2.2.1 = 2 then .long 0 else .null)) ∧ Cond.classLink own idx C ∈ lw_all ∧ Cond.instantiable C N ∈ lw_all ∧ Cond.initialized C ∈ lw_all
def newS (S : Sh) (t k n : Nat) : Sh := (va_up S.1 t k, va_up S.2.1 t n, wr S.2.2.1 t (fun _ => none), t + 1)
/-- the representation with one more cell -/
theorem Rep.push {w : Wd} {hp hp' : Heap} {S : Sh} {I : Mi} {J : Ml} {t k n : Nat} (hR : Rep w hp S I J) (ht : S.2.2.2 = t) (hb : t < 9999999) (e2 : hp'.size = wz w + t + 1) (e3 : ∀ q, q < wz w + t → hp'[q]? = hp[q]?) (e1 : AtC w (newS S t k n) (wr I t (fun _ => 0)) (wr J t (fun _ => 0)) hp' t) : Rep w hp' (newS S t k n) (wr I t (fun _ => 0)) (wr J t (fun _ => 0)) := by
  refine ⟨e2, fun q hq => by rw [e3 q (by omega)]; exact hR.2.1 q hq, fun a ha => ?_, fun a ha => ?_, ?_⟩
  · have ha : a < t + 1 := ha
    by_cases hat : a = t
    · subst hat
      exact e1
    · exact (hR.2.2.1 a (by omega)).keep (e3 _ (by omega)) (va_up_ne _ _ hat) (va_up_ne _ _ hat) (wr_n _ _ hat) (wr_n _ _ hat) (wr_n _ _ hat)
  · have ha : t + 1 ≤ a := ha
    show va_up S.1 t k a = 999
    rw [va_up_ne _ _ (by omega)]
    exact hR.2.2.2.1 a (by omega)
  · show t + 1 ≤ _
    omega
section Calls2
variable {w : Wd} {κ : Cx} {Z : State → Prop} {y : MethodName} {cc : ByteArray} {nL d mc ms : Nat} {rt : Option FieldType} {cs sl pc n : Nat} {L L' : List (Option Value)} {sk : List Value} {S : Sh} {I : Mi} {J : Ml}
theorem x_new (C : Cok w y cc nL rt d mc ms κ) {idx ci N : Nat} (hF : NL y.cls idx ci N) (hd : decode cc pc = .ok (.new idx, 3)) (n : Nat) (hn : pc + 3 = n) (t : Nat) (ht : S.2.2.2 = t) (hb : t < 9999999) (hc : cs + 1 ≤ mc) (hs : sl + N ≤ ms)
    (kk : XX w κ Z (cs + 1) (sl + N) n L (.ref t :: sk) (newS S t ci 0) (wr I t (fun _ => 0)) (wr J t (fun _ => 0))) : XX w κ Z cs sl pc L sk S I J := by
  intro hp locs ls hR hL hl
  subst hn
  obtain ⟨Cn, T, tys, hcl, hci, hin, hty, hdf, q1, q2, q3⟩ := hF
  have kk := fun hp' h1 => kk hp' locs ls h1 hL hl
  obtain ⟨p, l, e, R, s, m, args, below, meth, c⟩ := κ
  obtain ⟨hx, hbc, -, hown, hts, hK, -, -, hRm, -⟩ := C
  have hx : p.tables.exec = Jvm.exec := hx
  have hbc : c.code = cc := hbc
  have hown : s.vm.findClass y.cls = some m.cls := hown
  have hts : ∀ x ∈ lw_all, x.before args s = true := hts
  have hK : Kn w s := hK
  have hRm : R = rmx d mc ms := hRm
  have hKn := hK.1.1 ci _ hcl
  have hsz : hp.size = wz w + t := by rw [hR.1, ht]
  have kk : ∀ (hp' : Heap), Rep w hp' (newS S t ci 0) (wr I t (fun _ => 0)) (wr J t (fun _ => 0)) → W p l e R s m args below meth c hp' locs (cs + 1) (sl + N) Z (F0 m (pc + 3) ls (.ref (rho w t) :: sk.map (cv w))) := kk
  have hrho : rho w t = wz w + t := by unfold rho; rw [if_pos (by omega)]
  show W p l e R s m args below meth c hp locs cs sl Z (F0 m pc ls (sk.map (cv w)))
  refine W.newcK hx hbc hown (hts _ q1) (hts _ q2) (hts _ q3) rfl hd (by rw [hRm]; exact hc) (by rw [hRm]; exact hs) hKn.2.1 hsz fun H1 kC hkC e1 z1 o1 => ?_
  have hrep := hR.push (hp' := H1) (k := ci) (n := 0) ht hb z1 o1 ⟨fun _ => ⟨(Cn, T, N), by show xCl[va_up S.1 t ci t]? = _; rw [va_up_self]; exact hcl, by
    show t_OB (wz w + t) (w.2.1 (va_up S.1 t ci t)) N (w.2.2.1 (va_up S.1 t ci t)) H1 _
    rw [va_up_self]
    refine (u_born tys hts hin hKn hkC e1 hty).to fun j hj => ?_
    show defaultValue (tys j) = fV w (newS S t ci 0) (wr I t (fun _ => 0)) (wr J t (fun _ => 0)) T t j
    rw [hdf j hj]
    unfold fV
    show _ = (if fkd (T j).2.2.1 = 0 then Value.int (wr I t (fun _ => 0) t j) else if fkd (T j).2.2.1 = 2 then Value.long (wr J t (fun _ => 0) t j) else cv w (va_rf (wr S.2.2.1 t (fun _ => none) t j)))
    rw [wr_s, wr_s, wr_s]
    rfl⟩, fun q => by
      have q : 100 ≤ va_up S.1 t ci t := q
      rw [va_up_self] at q
      omega⟩
  have := kk H1 hrep
  rw [hrho] at this
  exact this
/-! ends -/
theorem x_iret {Q : Option Value → Sh → Mi → Ml → Prop} (C : Cok w y cc nL (some .int) d mc ms κ) {v : Int32} (hd : decode cc pc = .ok (.ireturn, 1)) (hc : cs ≤ mc) (hs : sl ≤ ms) (hq : Q (some (.int v)) S I J) : XX w κ (Zr w κ Q) cs sl pc L [.int v] S I J := by
  intro hp locs ls hR hL hl
  obtain ⟨p, l, e, R, s, m, args, below, meth, c⟩ := κ
  obtain ⟨hx, hb, -, -, -, -, hr, hlk, hRm, -⟩ := C
  have hRm : R = rmx d mc ms := hRm
  subst hRm
  refine W.widen (k := mc) (n := ms) hc hs ?_
  exact W.iret hx hb hr (fun t ht hW => ⟨some (.int v), S, I, J, rfl, by rw [ht]; exact hR, hq⟩) hL hd hlk
theorem x_zret {Q : Option Value → Sh → Mi → Ml → Prop} {ty : FieldType} (C : Cok w y cc nL (some ty) d mc ms κ) {v : Int32} (hd : decode cc pc = .ok (.ireturn, 1)) (hc : cs ≤ mc) (hs : sl ≤ ms) (hn : narrow ty (.int v) = .int v) (hq : Q (some (.int v)) S I J) : XX w κ (Zr w κ Q) cs sl pc L [.int v] S I J := by
  intro hp locs ls hR hL hl
  obtain ⟨p, l, e, R, s, m, args, below, meth, c⟩ := κ
  obtain ⟨hx, hb, -, -, -, -, hr, hlk, hRm, -⟩ := C
  have hRm : R = rmx d mc ms := hRm
  subst hRm
  refine W.widen (k := mc) (n := ms) hc hs ?_
  exact W.zret hx hb hr hn (fun t ht hW => ⟨some (.int v), S, I, J, rfl, by rw [ht]; exact hR, hq⟩) hL hd hlk
theorem x_lret {Q : Option Value → Sh → Mi → Ml → Prop} (C : Cok w y cc nL (some .long) d mc ms κ) {v : Int64} (hd : decode cc pc = .ok (.lreturn, 1)) (hc : cs ≤ mc) (hs : sl ≤ ms) (hq : Q (some (.long v)) S I J) : XX w κ (Zr w κ Q) cs sl pc L [.long v] S I J := by
  intro hp locs ls hR hL hl
  obtain ⟨p, l, e, R, s, m, args, below, meth, c⟩ := κ
  obtain ⟨hx, hb, -, -, -, -, hr, hlk, hRm, -⟩ := C
  have hRm : R = rmx d mc ms := hRm
  subst hRm
  refine W.widen (k := mc) (n := ms) hc hs ?_
  exact W.lret hx hb hr (fun t ht hW => ⟨some (.long v), S, I, J, rfl, by rw [ht]; exact hR, hq⟩) hL hd hlk
theorem x_vret {Q : Option Value → Sh → Mi → Ml → Prop} (C : Cok w y cc nL none d mc ms κ) (hd : decode cc pc = .ok (.return_, 1)) (hc : cs ≤ mc) (hs : sl ≤ ms) (hq : Q none S I J) : XX w κ (Zr w κ Q) cs sl pc L [] S I J := by
  intro hp locs ls hR hL hl
  obtain ⟨p, l, e, R, s, m, args, below, meth, c⟩ := κ
  obtain ⟨hx, hb, -, -, -, -, hr, hlk, hRm, -⟩ := C
  have hRm : R = rmx d mc ms := hRm
  subst hRm
  refine W.widen (k := mc) (n := ms) hc hs ?_
  exact W.vret hx hb hr (fun t ht hW => ⟨none, S, I, J, rfl, by rw [ht]; exact hR, hq⟩) hL hd hlk
theorem x_aret {Q : Option Value → Sh → Mi → Ml → Prop} {ty : FieldType} (C : Cok w y cc nL (some ty) d mc ms κ) (hty : (∃ n, ty = .object n) ∨ ∃ t, ty = .array t) {r : Option Nat} (hd : decode cc pc = .ok (.areturn, 1)) (hc : cs ≤ mc) (hs : sl ≤ ms) (hq : Q (some (va_rf r)) S I J) : XX w κ (Zr w κ Q) cs sl pc L [va_rf r] S I J := by
  intro hp locs ls hR hL hl
  obtain ⟨p, l, e, R, s, m, args, below, meth, c⟩ := κ
  obtain ⟨hx, hb, -, -, -, -, hr, hlk, hRm, -⟩ := C
  have hRm : R = rmx d mc ms := hRm
  subst hRm
  refine W.widen (k := mc) (n := ms) hc hs ?_
  exact W.aret hx hb hr hty (by
    cases r with
    | none => exact Or.inl rfl
    | some b => exact Or.inr ⟨_, rfl⟩) (fun t ht hW => ⟨some (va_rf r), S, I, J, rfl, by rw [ht]; exact hR, hq⟩) hL hd hlk
/-! calls -/
theorem ct_blind (w : Wd) (av : List Value) (S : Sh) (I : Mi) (J : Ml) : FrameBlind (fun v U => v = (av.map (cv w)).toArray ∧ Rep w U.heap S I J ∧ Kn w U) := by
  intro a U g mk h
  exact ⟨h.1, h.2.1, h.2.2.same rfl⟩
/-- behind a call -/
theorem x_back {g : JFrame} {p : Program} {l : Launch} {e : Env} {R : Room} {s : State} {m : MethodId} {args : Array Value} {below : List Frame} {meth : Method} {c : Code} {hp : Heap} {locs : List Loc} {mc' ms' : Nat} {rest : List Value} {Q : Option Value → Sh → Mi → Ml → Prop} {aa : Array Value} (hr : va_Run p l e R s m args below meth c hp locs cs sl mc' ms' g rest (qc w Q aa) (fun q => wz w ≤ q)) (hL : ∀ q ∈ locs, wz w ≤ q.base)
    (k : ∀ (r : Option Value) (S' : Sh) (I' : Mi) (J' : Ml), Q r S' I' J' → ∀ (hp' : Heap) (locs' : List Loc), Rep w hp' S' I' J' → (∀ q ∈ locs', wz w ≤ q.base) → W p l e R s m args below meth c hp' locs' (cs + mc') (sl + ms') Z { g with pc := g.pc + 3, stack := (r.map (cv w)).toList ++ rest }) : W p l e R s m args below meth c hp locs cs sl Z g := by
  intro T hT X
  obtain ⟨v, st₀, t, T', L, h0, X', hLL, e1, -, ⟨r, S', I', J', hv, hR', hQ⟩, st⟩ := hr T hT X
  cases hv
  obtain ⟨t2, a1, b1⟩ := k r S' I' J' hQ t.heap (locs ++ L) hR' (fun q hq => by
    rcases List.mem_append.mp hq with h | h
    · exact hL q h
    · exact hLL q h) T' e1 X'
  exact ⟨t2, st t2 a1, b1⟩
/-- a call through an object of the class numbered ci: entry idx of own -/
def MV (own : String) (idx ci : Nat) (y : MethodName) (cc : ByteArray) (nL : Nat) (rt : Option FieldType) (n : Nat) : Prop :=
  GoodIn lw_all (wsV own idx y.cls y (ws_ y cc nL rt)) ∧ (y.cls ≠ "java/lang/invoke/MethodHandle" ∧ y.cls ≠ "java/lang/invoke/VarHandle" ∧ (parseMethodDescriptor y.desc).map (fun d => d.parameters.length) = some n) ∧ ci < 100 ∧ (∃ q, xCl[ci]? = some q ∧ q.1 = y.cls) ∧ nL ≤ 22
theorem x_callV (C : Cok w y cc nL rt d mc ms κ) {y' : MethodName} {cc' : ByteArray} {nL' d' mc' ms' idx ci k b : Nat} {rt' : Option FieldType} {Q : Option Value → Sh → Mi → Ml → Prop} (hM : MV y.cls idx ci y' cc' nL' rt' k) (hd : decode cc pc = .ok (.invokevirtual idx, 3)) (n : Nat) (hn : pc + 3 = n) (As rest : List Value) (hsk : sk = As.reverse ++ .ref b :: rest) (hAn : As.length = k) (hT : S.1 b = ci)
    (hroom : (rest.map fun v => v.category).sum ≤ 8) (hdd : d' + 1 ≤ d) (hc : cs + mc' ≤ mc) (hs : sl + ms' ≤ ms) (hct : Ct w κ.2.1 y' cc' nL' rt' d' mc' ms' (.ref b :: As) S I J Q)
    (kk : ∀ (r : Option Value) (S' : Sh) (I' : Mi) (J' : Ml), Q r S' I' J' → XX w κ Z (cs + mc') (sl + ms') n L (r.toList ++ rest) S' I' J') : XX w κ Z cs sl pc L sk S I J := by
  intro hp locs ls hR hL hl
  subst hn
  subst hsk
  obtain ⟨hG, hds, hci, ⟨q, hq1, hq2⟩, hnl⟩ := hM
  have hlt : b < S.2.2.2 := hR.lt hT (by omega)
  obtain ⟨r, hr, hOB⟩ := (hR.2.2.1 b hlt).1 (by omega)
  rw [hT] at hr hOB
  cases hq1.symm.trans hr
  have hrho : rho w b = wz w + b := rho_of hR hT (by omega)
  have kk := fun r S' I' J' h0 hp' locs' h1 h2 => kk r S' I' J' h0 hp' locs' ls h1 h2 hl
  obtain ⟨p, l, e, R, s, m, args, below, meth, c⟩ := κ
  obtain ⟨hx, hb, hml, hown, hts, hK, -, -, hRm, -⟩ := C
  have hx : p.tables.exec = Jvm.exec := hx
  have hb : c.code = cc := hb
  have hml : c.maxLocals = nL := hml
  have hown : s.vm.findClass y.cls = some m.cls := hown
  have hts : ∀ x ∈ lw_all, x.before args s = true := hts
  have hK : Kn w s := hK
  have hRm : R = rmx d mc ms := hRm
  have hl : LR w ls c.maxLocals L := hl
  have hct : Met l y' (ws_ y' cc' nL' rt') (rmx d' mc' ms') (fun v U => v = (((.ref b :: As : List Value)).map (cv w)).toArray ∧ Rep w U.heap S I J ∧ Kn w U) (qc w Q) mc' ms' (fun q => wz w ≤ q) := hct
  obtain ⟨hS, hfc, -⟩ := hK.1.1 ci _ hq1
  obtain ⟨cell, g1, g2, g3, -⟩ := hOB
  have hsk2 : ((As.reverse ++ .ref b :: rest).map (cv w)) = (As.map (cv w)).reverse ++ .ref (wz w + b) :: rest.map (cv w) := by
    rw [List.map_append, List.map_reverse, List.map_cons, ← hrho]
    rfl
  show W p l e R s m args below meth c hp locs cs sl Z (F0 m pc ls ((As.reverse ++ .ref b :: rest).map (cv w)))
  rw [hsk2]
  have hrest : ((rest.map (cv w)).map fun v => v.category) = rest.map fun v => v.category := by
    rw [List.map_map]
    exact List.map_congr_left (fun v _ => cv_cat w v)
  have hav : (Value.ref (wz w + b) :: As.map (cv w)).toArray = (((.ref b :: As : List Value)).map (cv w)).toArray := by
    rw [List.map_cons]
    show _ = (Value.ref (rho w b) :: As.map (cv w)).toArray
    rw [hrho]
  refine x_back (va_runV (As := As.map (cv w)) (rest := rest.map (cv w)) (b := wz w + b) (C := y'.cls) ⟨hx, hb, hml, hown, hts⟩ hct (cwV k hts hG rfl rfl rfl ⟨rfl, hds⟩ (by rw [hRm]; exact ⟨hdd, by show 8 + (nL' + 11) + 41 * d' ≤ 41 * d; omega⟩)) ⟨ct_blind w _ S I J, ⟨cell, g1, by rw [g3]; rfl, by rw [g2]; rw [← hq2]; exact hfc⟩, fun U hU hW => ⟨hav, by rw [hU]; exact hR, hK.warm hW⟩⟩ rfl (by rw [List.length_map]; exact hAn) (by rw [← hml]; exact hl.1) rfl (lv_room (by rw [hrest]; exact hroom)) hd (by rw [hRm]; exact ⟨hc, hs⟩)) hL ?_
  intro r S' I' J' hQ hp' locs' hR' hL'
  have := kk r S' I' J' hQ hp' locs' hR' hL'
  rw [List.map_append] at this
  cases r <;> exact this
/-- a static call -/
def MS (own : String) (idx : Nat) (y : MethodName) (cc : ByteArray) (nL : Nat) (rt : Option FieldType) (n : Nat) : Prop :=
  (GoodIn lw_all (va_wsS own idx y (ws_ y cc nL rt)) ∨ (GoodIn lw_all (ws_ y cc nL rt) ∧ (∃ host, (own, idx, y, host) ∈ xNM) ∧ Cond.static y ∈ lw_all ∧ Cond.initialized y.cls ∈ lw_all)) ∧ (y.cls ≠ "java/lang/invoke/MethodHandle" ∧ y.cls ≠ "java/lang/invoke/VarHandle" ∧ (parseMethodDescriptor y.desc).map (fun d => d.parameters.length) = some n) ∧ nL ≤ 22
theorem x_callS (C : Cok w y cc nL rt d mc ms κ) {y' : MethodName} {cc' : ByteArray} {nL' d' mc' ms' idx k : Nat} {rt' : Option FieldType} {Q : Option Value → Sh → Mi → Ml → Prop} (hM : MS y.cls idx y' cc' nL' rt' k) (hd : decode cc pc = .ok (.invokestatic idx, 3)) (n : Nat) (hn : pc + 3 = n) (As rest : List Value) (hsk : sk = As.reverse ++ rest) (hAn : As.length = k)
    (hroom : (rest.map fun v => v.category).sum ≤ 8) (hdd : d' + 1 ≤ d) (hc : cs + mc' ≤ mc) (hs : sl + ms' ≤ ms) (hct : Ct w κ.2.1 y' cc' nL' rt' d' mc' ms' As S I J Q)
    (kk : ∀ (r : Option Value) (S' : Sh) (I' : Mi) (J' : Ml), Q r S' I' J' → XX w κ Z (cs + mc') (sl + ms') n L (r.toList ++ rest) S' I' J') : XX w κ Z cs sl pc L sk S I J := by
  intro hp locs ls hR hL hl
  subst hn
  subst hsk
  obtain ⟨hG, hds, hnl⟩ := hM
  have kk := fun r S' I' J' h0 hp' locs' h1 h2 => kk r S' I' J' h0 hp' locs' ls h1 h2 hl
  obtain ⟨p, l, e, R, s, m, args, below, meth, c⟩ := κ
  obtain ⟨hx, hb, hml, hown, hts, hK, -, -, hRm, -⟩ := C
  have hx : p.tables.exec = Jvm.exec := hx
  have hb : c.code = cc := hb
  have hml : c.maxLocals = nL := hml
  have hown : s.vm.findClass y.cls = some m.cls := hown
  have hts : ∀ x ∈ lw_all, x.before args s = true := hts
  have hK : Kn w s := hK
  have hRm : R = rmx d mc ms := hRm
  have hl : LR w ls c.maxLocals L := hl
  have hct : Met l y' (ws_ y' cc' nL' rt') (rmx d' mc' ms') (fun v U => v = (As.map (cv w)).toArray ∧ Rep w U.heap S I J ∧ Kn w U) (qc w Q) mc' ms' (fun q => wz w ≤ q) := hct
  have hsk2 : ((As.reverse ++ rest).map (cv w)) = (As.map (cv w)).reverse ++ rest.map (cv w) := by
    rw [List.map_append, List.map_reverse]
  show W p l e R s m args below meth c hp locs cs sl Z (F0 m pc ls ((As.reverse ++ rest).map (cv w)))
  rw [hsk2]
  have hrest : ((rest.map (cv w)).map fun v => v.category) = rest.map fun v => v.category := by
    rw [List.map_map]
    exact List.map_congr_left (fun v _ => cv_cat w v)
  have hroomR : (rmx d' mc' ms').frames + 1 ≤ R.frames ∧ 8 + (nL' + 11) + (rmx d' mc' ms').locals ≤ R.locals := by rw [hRm]; exact ⟨hdd, by show 8 + (nL' + 11) + 41 * d' ≤ 41 * d; omega⟩
  have hend : ∀ (r : Option Value) (S' : Sh) (I' : Mi) (J' : Ml), Q r S' I' J' → ∀ (hp' : Heap) (locs' : List Loc), Rep w hp' S' I' J' → (∀ q ∈ locs', wz w ≤ q.base) → W p l e R s m args below meth c hp' locs' (cs + mc') (sl + ms') Z (F0 m (pc + 3) ls ((r.map (cv w)).toList ++ rest.map (cv w))) := by
    intro r S' I' J' hQ hp' locs' hR' hL'
    have := kk r S' I' J' hQ hp' locs' hR' hL'
    rw [List.map_append] at this
    cases r <;> exact this
  rcases hG with hG | ⟨hG, ⟨host, hnm⟩, hst, hini⟩
  · exact x_back (va_runS (As := As.map (cv w)) (rest := rest.map (cv w)) ⟨hx, hb, hml, hown, hts⟩ hct (va_cwS k hts hG rfl rfl rfl hds hroomR) ⟨ct_blind w _ S I J, fun U hU hW => ⟨rfl, by rw [hU]; exact hR, hK.warm hW⟩⟩ rfl (by rw [List.length_map]; exact hAn) (by rw [← hml]; exact hl.1) rfl (lv_room (by rw [hrest]; exact hroom)) hd (by rw [hRm]; exact ⟨hc, hs⟩)) hL hend
  · have hnw : va_Nw (.methodLinkNest y.cls idx y' host) s := hK.2.2.1 _ hnm
    exact x_back (va_runSN (As := As.map (cv w)) (rest := rest.map (cv w)) (host := host) ⟨hx, hb, hml, hown, hts⟩ hct ⟨va_cnB k hts hG rfl rfl rfl hnw (hts _ hini) hds hroomR, hts _ hst, trivial⟩ ⟨ct_blind w _ S I J, fun U hU hW => ⟨rfl, by rw [hU]; exact hR, hK.warm hW⟩⟩ rfl (by rw [List.length_map]; exact hAn) (by rw [← hml]; exact hl.1) rfl (lv_room (by rw [hrest]; exact hroom)) hd (by rw [hRm]; exact ⟨hc, hs⟩)) hL hend
/-- a constructor's call -/
def MI (own : String) (idx : Nat) (y : MethodName) (cc : ByteArray) (nL : Nat) (n : Nat) : Prop :=
  (Cond.methodLink own idx y ∈ lw_all ∨ ∃ host, (own, idx, y, host) ∈ xNM) ∧ GoodIn lw_all (ws_ y cc nL none) ∧ Cond.instanceMethod y ∈ lw_all ∧ Cond.initialized y.cls ∈ lw_all ∧ (y.cls ≠ "java/lang/invoke/MethodHandle" ∧ y.cls ≠ "java/lang/invoke/VarHandle" ∧ (parseMethodDescriptor y.desc).map (fun d => d.parameters.length) = some n) ∧ y.name = "<init>" ∧ nL ≤ 22
theorem x_callI (C : Cok w y cc nL rt d mc ms κ) {y' : MethodName} {cc' : ByteArray} {nL' d' mc' ms' idx k b t : Nat} {Q : Option Value → Sh → Mi → Ml → Prop} (hM : MI y.cls idx y' cc' nL' k) (hd : decode cc pc = .ok (.invokespecial idx, 3)) (n : Nat) (hn : pc + 3 = n) (As rest : List Value) (hsk : sk = As.reverse ++ .ref b :: rest) (hAn : As.length = k) (hT : S.1 b = t) (ht : t ≠ 999)
    (hroom : (rest.map fun v => v.category).sum ≤ 8) (hdd : d' + 1 ≤ d) (hc : cs + mc' ≤ mc) (hs : sl + ms' ≤ ms) (hct : Ct w κ.2.1 y' cc' nL' none d' mc' ms' (.ref b :: As) S I J Q)
    (kk : ∀ (r : Option Value) (S' : Sh) (I' : Mi) (J' : Ml), Q r S' I' J' → XX w κ Z (cs + mc') (sl + ms') n L (r.toList ++ rest) S' I' J') : XX w κ Z cs sl pc L sk S I J := by
  intro hp locs ls hR hL hl
  subst hn
  subst hsk
  obtain ⟨hG0, hG, hin, hini, hds, hyn, hnl⟩ := hM
  have hrho : rho w b = wz w + b := rho_of hR hT ht
  have kk := fun r S' I' J' h0 hp' locs' h1 h2 => kk r S' I' J' h0 hp' locs' ls h1 h2 hl
  obtain ⟨p, l, e, R, s, m, args, below, meth, c⟩ := κ
  obtain ⟨hx, hb, hml, hown, hts, hK, -, -, hRm, -⟩ := C
  have hx : p.tables.exec = Jvm.exec := hx
  have hb : c.code = cc := hb
  have hml : c.maxLocals = nL := hml
  have hown : s.vm.findClass y.cls = some m.cls := hown
  have hts : ∀ x ∈ lw_all, x.before args s = true := hts
  have hK : Kn w s := hK
  have hRm : R = rmx d mc ms := hRm
  have hl : LR w ls c.maxLocals L := hl
  have hct : Met l y' (ws_ y' cc' nL' none) (rmx d' mc' ms') (fun v U => v = (((.ref b :: As : List Value)).map (cv w)).toArray ∧ Rep w U.heap S I J ∧ Kn w U) (qc w Q) mc' ms' (fun q => wz w ≤ q) := hct
  have hsk2 : ((As.reverse ++ .ref b :: rest).map (cv w)) = (As.map (cv w)).reverse ++ .ref (wz w + b) :: rest.map (cv w) := by
    rw [List.map_append, List.map_reverse, List.map_cons, ← hrho]
    rfl
  show W p l e R s m args below meth c hp locs cs sl Z (F0 m pc ls ((As.reverse ++ .ref b :: rest).map (cv w)))
  rw [hsk2]
  have hrest : ((rest.map (cv w)).map fun v => v.category) = rest.map fun v => v.category := by
    rw [List.map_map]
    exact List.map_congr_left (fun v _ => cv_cat w v)
  have hav : (Value.ref (wz w + b) :: As.map (cv w)).toArray = (((.ref b :: As : List Value)).map (cv w)).toArray := by
    rw [List.map_cons]
    show _ = (Value.ref (rho w b) :: As.map (cv w)).toArray
    rw [hrho]
  have hroomR : (rmx d' mc' ms').frames + 1 ≤ R.frames ∧ 8 + (nL' + 11) + (rmx d' mc' ms').locals ≤ R.locals := by rw [hRm]; exact ⟨hdd, by show 8 + (nL' + 11) + 41 * d' ≤ 41 * d; omega⟩
  have hend : ∀ (r : Option Value) (S' : Sh) (I' : Mi) (J' : Ml), Q r S' I' J' → ∀ (hp' : Heap) (locs' : List Loc), Rep w hp' S' I' J' → (∀ q ∈ locs', wz w ≤ q.base) → W p l e R s m args below meth c hp' locs' (cs + mc') (sl + ms') Z (F0 m (pc + 3) ls ((r.map (cv w)).toList ++ rest.map (cv w))) := by
    intro r S' I' J' hQ hp' locs' hR' hL'
    have := kk r S' I' J' hQ hp' locs' hR' hL'
    rw [List.map_append] at this
    cases r <;> exact this
  rcases hG0 with hG0 | ⟨host, hnm⟩
  · exact x_back (va_runI (As := As.map (cv w)) (rest := rest.map (cv w)) (b := wz w + b) ⟨hx, hb, hml, hown, hts⟩ hct (cwI k hts hG rfl rfl rfl (hts _ hini) (hts _ hG0) (hts _ hin) hyn hds hroomR) ⟨ct_blind w _ S I J, fun U hU hW => ⟨hav, by rw [hU]; exact hR, hK.warm hW⟩⟩ rfl (by rw [List.length_map]; exact hAn) (by rw [← hml]; exact hl.1) rfl (lv_room (by rw [hrest]; exact hroom)) hd (by rw [hRm]; exact ⟨hc, hs⟩)) hL hend
  · have hnw : va_Nw (.methodLinkNest y.cls idx y' host) s := hK.2.2.1 _ hnm
    exact x_back (va_runIN (As := As.map (cv w)) (rest := rest.map (cv w)) (b := wz w + b) (host := host) ⟨hx, hb, hml, hown, hts⟩ hct ⟨va_cnB k hts hG rfl rfl rfl hnw (hts _ hini) hds hroomR, hyn, hts _ hin⟩ ⟨ct_blind w _ S I J, fun U hU hW => ⟨hav, by rw [hU]; exact hR, hK.warm hW⟩⟩ rfl (by rw [List.length_map]; exact hAn) (by rw [← hml]; exact hl.1) rfl (lv_room (by rw [hrest]; exact hroom)) hd (by rw [hRm]; exact ⟨hc, hs⟩)) hL hend
end Calls2
