/-! rows on the heap: fields, arrays, new cells -/
theorem sto_kn {α : Type} (I : Nat → Nat → α) (a k : Nat) (v : α) {j : Nat} (h : j ≠ k) : sto I a k v a j = I a j := by
  rw [sto_at, if_neg (fun q => h q.2)]
def kdt (ty : FieldType) : Nat := match ty with
  | .int => 0
  | .boolean => 0
  | .byte => 0
  | .long => 2
  | _ => 1
/-- a field by its entry: own idx says the field k of the class numbered ci, of type ty, final or not -/
def FL (own : String) (idx ci k : Nat) (ty : FieldType) (fin : Bool) : Prop :=
  ∃ (C : String) (T : u_T) (N : Nat) (tys : Nat → FieldType), xCl[ci]? = some (C, T, N) ∧ ci < 100 ∧ k < N ∧ (∀ x ∈ u_ws C T N, x ∈ lw_all) ∧ (∀ j, j < N → parseFieldDescriptor (T j).2.2.1 = some (tys j)) ∧ (∀ a, a < N → ∀ b, b < N → a ≠ b → (T a).2.1 ≠ (T b).2.1) ∧
  tys k = ty ∧ (T k).2.2.2 = fin ∧
  ((∃ ref, Cond.fieldLink own idx ref (T k).2.1 (T k).2.2.1 ∈ lw_all ∧ (ref = (T k).1 ∨ Cond.sameField ref (T k).1 (T k).2.1 (T k).2.2.1 ∈ lw_all)) ∨ (∃ host, (own, idx, (T k).1, (T k).2.1, (T k).2.2.1, host) ∈ xNF)) ∧
  fkd (T k).2.2.1 = kdt ty
def FD (own : String) (ci k : Nat) : Prop := ∃ q, xCl[ci]? = some q ∧ (q.2.1 k).1 = own
/-- the slots of a class's fields are apart -/
theorem FL.apart {own : String} {idx ci k : Nat} {ty : FieldType} {fin : Bool} {C : String} {T : u_T} {N : Nat} {tys : Nat → FieldType} {w : Wd} {s : State} {args : Array Value} (hts : ∀ x ∈ lw_all, x.before args s = true) (hK : Kn w s) (hc : xCl[ci]? = some (C, T, N)) (hin : ∀ x ∈ u_ws C T N, x ∈ lw_all) (hty : ∀ j, j < N → parseFieldDescriptor (T j).2.2.1 = some (tys j)) (hnm : ∀ a, a < N → ∀ b, b < N → a ≠ b → (T a).2.1 ≠ (T b).2.1) :
    ∀ a b, a < N → b < N → a ≠ b → (w.2.2.1 ci) a ≠ (w.2.2.1 ci) b := va_apart (own := own) hts hin tys hty hnm hK.1 hc
/-- a cell that isn't the one that changed -/
theorem AtC.keep {w : Wd} {S S' : Sh} {I I' : Mi} {J J' : Ml} {hp hp' : Heap} {a : Nat} (h : AtC w S I J hp a) (hq : hp'[wz w + a]? = hp[wz w + a]?) (h1 : S'.1 a = S.1 a) (h2 : S'.2.1 a = S.2.1 a) (h3 : S'.2.2.1 a = S.2.2.1 a) (h4 : I' a = I a) (h5 : J' a = J a) : AtC w S' I' J' hp' a := by
  unfold AtC at *
  rw [h1, h2]
  refine ⟨fun q => ?_, fun q => ?_⟩
  · obtain ⟨r, r1, r2⟩ := h.1 q
    refine ⟨r, r1, (r2.kept hq).to fun k _ => ?_⟩
    unfold fV
    rw [h3, h4, h5]
  · rw [hq, h.2 q]
    have : aV w S I J (S.1 a - 100) a = aV w S' I' J' (S.1 a - 100) a := by
      funext i
      unfold aV
      rw [h3, h4, h5]
    rw [this]
section Heap
variable {w : Wd} {κ : Cx} {Z : State → Prop} {y : MethodName} {cc : ByteArray} {nL d mc ms : Nat} {rt : Option FieldType} {cs sl pc n : Nat} {L L' : List (Option Value)} {sk : List Value} {S : Sh} {I : Mi} {J : Ml}
/-- getfield, any kind -/
theorem x_getV (C : Cok w y cc nL rt d mc ms κ) {a idx ci k : Nat} {ty : FieldType} {fin : Bool} {v : Value} (hF : FL y.cls idx ci k ty fin) (hd : decode cc pc = .ok (.getfield idx, 3)) (n : Nat) (hn : pc + 3 = n) (hT : S.1 a = ci)
    (hv : ∀ (T : u_T), fkd (T k).2.2.1 = kdt ty → fV w S I J T a k = cv w v)
    (kk : XX w κ Z cs sl n L (v :: sk) S I J) : XX w κ Z cs sl pc L (.ref a :: sk) S I J := by
  intro hp locs ls hR hL hl
  subst hn
  obtain ⟨Cn, T, N, tys, hc, hci, hk, hin, hty, hnm, hte, -, hlink, hfk⟩ := hF
  have hlt : a < S.2.2.2 := hR.lt hT (by omega)
  obtain ⟨r, hr, hOB⟩ := (hR.2.2.1 a hlt).1 (by omega)
  rw [hT] at hr hOB
  cases hc.symm.trans hr
  have hrho : rho w a = wz w + a := rho_of hR hT (by omega)
  have hkk := kk hp locs ls hR hL hl
  obtain ⟨p, l, e, R, s, m, args, below, meth, c⟩ := κ
  obtain ⟨hx, hb, -, hown, hts, hK, -⟩ := C
  have hx : p.tables.exec = Jvm.exec := hx
  have hb : c.code = cc := hb
  have hown : s.vm.findClass y.cls = some m.cls := hown
  have hts : ∀ x ∈ lw_all, x.before args s = true := hts
  have hK : Kn w s := hK
  obtain ⟨hS, hfc, kC, hkC, hkind⟩ := hK.1.1 ci _ hc
  obtain ⟨cf, kf, fi, f, hi, hsl⟩ := hS k hk
  obtain ⟨cell, q1, q2, q3, q4⟩ := hOB
  have hst := (u_facts hfc hkC (u_lays hts hin hk) hi).1
  have hslot : cell.slots[f.slot]? = some (cv w v) := by
    rw [hsl, q4 k hk]
    exact congrArg some (hv T hfk)
  have hkk : W p l e R s m args below meth c hp locs cs sl Z (F0 m (pc + 3) ls (cv w v :: sk.map (cv w))) := hkk
  show W p l e R s m args below meth c hp locs cs sl Z (F0 m pc ls (.ref (rho w a) :: sk.map (cv w)))
  rw [hrho]
  have hknown : cell.vm ≠ .unknown := by rw [q3]; exact fun h => by cases h
  rcases hlink with ⟨ref, h1, h2⟩ | ⟨host, h1⟩
  · have hsame : s.fieldFound? ref (T k).2.1 (T k).2.2.1 = some (cf, kf, fi, f) := by
      rcases h2 with h2 | h2
      · rw [h2]; exact hi
      · exact u_same (hts _ h2) _ hi
    exact W.getf hx hb hown (hts _ h1) hsame hst q1 hknown hslot rfl rfl hd hkk
  · have hq := hK.2.1 _ h1
    have hq : va_Nw (.fieldLinkNest y.cls idx (T k).1 (T k).2.1 (T k).2.2.1 host) s := hq
    have hnl : (Cond.fieldLinkNest y.cls idx (T k).1 (T k).2.1 (T k).2.2.1 host).before args s = true := hq.use rfl
    exact va_Wgetf hx hb hown hnl hi hst q1 hknown hslot rfl rfl hd hkk
theorem x_geti (C : Cok w y cc nL rt d mc ms κ) {a idx ci k : Nat} {ty : FieldType} {fin : Bool} {v : Int32} (hF : FL y.cls idx ci k ty fin) (hty : ty = .int ∨ ty = .boolean ∨ ty = .byte) (hd : decode cc pc = .ok (.getfield idx, 3)) (n : Nat) (hn : pc + 3 = n) (hT : S.1 a = ci) (hv : I a k = v)
    (kk : XX w κ Z cs sl n L (.int v :: sk) S I J) : XX w κ Z cs sl pc L (.ref a :: sk) S I J := by
  refine x_getV C hF hd n hn hT (fun T hf => ?_) kk
  rcases hty with rfl | rfl | rfl <;> (have hf : fkd (T k).2.2.1 = 0 := hf; unfold fV; rw [if_pos hf, hv]; rfl)
theorem x_getl (C : Cok w y cc nL rt d mc ms κ) {a idx ci k : Nat} {fin : Bool} {v : Int64} (hF : FL y.cls idx ci k .long fin) (hd : decode cc pc = .ok (.getfield idx, 3)) (n : Nat) (hn : pc + 3 = n) (hT : S.1 a = ci) (hv : J a k = v)
    (kk : XX w κ Z cs sl n L (.long v :: sk) S I J) : XX w κ Z cs sl pc L (.ref a :: sk) S I J := by
  refine x_getV C hF hd n hn hT (fun T hf => ?_) kk
  have hf : fkd (T k).2.2.1 = 2 := hf
  unfold fV
  rw [if_neg (by rw [hf]; exact fun q => by cases q), if_pos hf, hv]
  rfl
theorem x_getq (C : Cok w y cc nL rt d mc ms κ) {a idx ci k : Nat} {ty : FieldType} {fin : Bool} {r : Option Nat} (hF : FL y.cls idx ci k ty fin) (hty : (∃ s, ty = .object s) ∨ ∃ t, ty = .array t) (hd : decode cc pc = .ok (.getfield idx, 3)) (n : Nat) (hn : pc + 3 = n) (hT : S.1 a = ci) (hv : S.2.2.1 a k = r)
    (kk : XX w κ Z cs sl n L (va_rf r :: sk) S I J) : XX w κ Z cs sl pc L (.ref a :: sk) S I J := by
  refine x_getV C hF hd n hn hT (fun T hf => ?_) kk
  rcases hty with ⟨q, rfl⟩ | ⟨q, rfl⟩ <;> (unfold fV; rw [if_neg (by rw [hf]; exact fun q => by cases q), if_neg (by rw [hf]; exact fun q => by cases q), hv])
theorem x_getr (C : Cok w y cc nL rt d mc ms κ) {a idx ci k b : Nat} {ty : FieldType} {fin : Bool} (hF : FL y.cls idx ci k ty fin) (hty : (∃ s, ty = .object s) ∨ ∃ t, ty = .array t) (hd : decode cc pc = .ok (.getfield idx, 3)) (n : Nat) (hn : pc + 3 = n) (hT : S.1 a = ci) (hv : S.2.2.1 a k = some b)
    (kk : XX w κ Z cs sl n L (.ref b :: sk) S I J) : XX w κ Z cs sl pc L (.ref a :: sk) S I J := x_getq (r := some b) C hF hty hd n hn hT hv kk
/-- putfield, any kind -/
theorem x_putV (C : Cok w y cc nL rt d mc ms κ) {a idx ci k : Nat} {ty : FieldType} {fin : Bool} {v : Value} {S' : Sh} {I' : Mi} {J' : Ml} (hF : FL y.cls idx ci k ty fin) (hd : decode cc pc = .ok (.putfield idx, 3)) (n : Nat) (hn : pc + 3 = n) (hT : S.1 a = ci) (hnar : narrow ty (cv w v) = cv w v) (hfit : fits ty (cv w v) = true) (hfin : fin = false ∨ (y.name = "<init>" ∧ FD y.cls ci k))
    (hS1 : S'.1 = S.1) (hS2 : S'.2.1 = S.2.1) (hS4 : S'.2.2.2 = S.2.2.2) (hne : ∀ b, b ≠ a → S'.2.2.1 b = S.2.2.1 b ∧ I' b = I b ∧ J' b = J b)
    (hv : ∀ (T : u_T) (N : Nat), k < N → fkd (T k).2.2.1 = kdt ty → ∀ j, j < N → fV w S' I' J' T a j = updV (fV w S I J T a) k (cv w v) j)
    (kk : XX w κ Z cs sl n L sk S' I' J') : XX w κ Z cs sl pc L (v :: .ref a :: sk) S I J := by
  intro hp locs ls hR hL hl
  subst hn
  obtain ⟨Cn, T, N, tys, hc, hci, hk, hin, hty, hnm, hte, hfl, hlink, hfk⟩ := hF
  have hlt : a < S.2.2.2 := hR.lt hT (by omega)
  obtain ⟨r, hr, hOB⟩ := (hR.2.2.1 a hlt).1 (by omega)
  rw [hT] at hr hOB
  cases hc.symm.trans hr
  have hrho : rho w a = wz w + a := rho_of hR hT (by omega)
  have kk := fun hp' locs' h1 h2 => kk hp' locs' ls h1 h2 hl
  obtain ⟨p, l, e, R, s, m, args, below, meth, c⟩ := κ
  obtain ⟨hx, hb, -, hown, hts, hK, -, -, -, hmn⟩ := C
  have hx : p.tables.exec = Jvm.exec := hx
  have hb : c.code = cc := hb
  have hown : s.vm.findClass y.cls = some m.cls := hown
  have hts : ∀ x ∈ lw_all, x.before args s = true := hts
  have hK : Kn w s := hK
  have hmn : meth.name = y.name := hmn
  have hap := FL.apart (own := y.cls) (idx := idx) (k := k) (ty := ty) (fin := fin) hts hK hc hin hty hnm
  obtain ⟨hS, hfc, kC, hkC, hkind⟩ := hK.1.1 ci _ hc
  obtain ⟨cf, kf, fi, f, hi, hsl⟩ := hS k hk
  have hsl : f.slot = w.2.2.1 ci k := hsl
  obtain ⟨cell, q1, q2, q3, q4⟩ := hOB
  have q2 : cell.cls = w.2.1 ci := q2
  have hst := (u_facts hfc hkC (u_lays hts hin hk) hi).1
  have hd2 : parseFieldDescriptor (T k).2.2.1 = some ty := by rw [hty k hk, hte]
  have fin1 : ∀ (hp' : Heap), hp'[wz w + a]? = some (cell.setSlot f.slot (cv w v)) → hp'.size = hp.size → (∀ q, q ≠ wz w + a → hp'[q]? = hp[q]?) → Rep w hp' S' I' J' := by
    intro hp' e1 e2 e3
    rw [hsl] at e1
    refine ⟨by rw [e2, hS4]; exact hR.1, fun q hq => by rw [e3 q (by omega)]; exact hR.2.1 q hq, fun b hb => ?_, fun b hb => by rw [hS1]; exact hR.2.2.2.1 b (by rw [← hS4]; exact hb), by rw [hS4]; exact hR.2.2.2.2⟩
    by_cases hba : b = a
    · subst hba
      refine ⟨fun _ => ⟨(Cn, T, N), by rw [hS1, hT]; exact hc, ?_⟩, fun q => by rw [hS1, hT] at q; omega⟩
      rw [hS1, hT]
      exact t_OB.to (V := updV (fV w S I J T b) k (cv w v)) ⟨_, e1, q2, q3, t_set q4 hap hk (cv w v)⟩ (fun j hj => (hv T N hk hfk j hj).symm)
    · obtain ⟨g3, g4, g5⟩ := hne b hba
      exact (hR.2.2.1 b (by rw [← hS4]; exact hb)).keep (e3 _ (by omega)) (by rw [hS1]) (by rw [hS2]) g3 g4 g5
  have hlay := hts _ (hin _ (u_in_lay hk))
  unfold u_lay at hlay
  have kk : ∀ (hp' : Heap) (locs' : List Loc), Rep w hp' S' I' J' → (∀ q ∈ locs', wz w ≤ q.base) → W p l e R s m args below meth c hp' locs' cs sl Z (F0 m (pc + 3) ls (sk.map (cv w))) := kk
  show W p l e R s m args below meth c hp locs cs sl Z (F0 m pc ls (cv w v :: .ref (rho w a) :: sk.map (cv w)))
  rw [hrho]
  have hlocs : ∀ q ∈ locs ++ [⟨wz w + a, f.slot⟩], wz w ≤ q.base := by
    intro q hq
    rcases List.mem_append.mp hq with h | h
    · exact hL q h
    · rw [List.mem_singleton.mp h]; exact Nat.le_add_right _ _
  have hlts : f.slot < cell.slots.size := by rw [hsl]; exact k2_hasslot (q4 k hk)
  have hfull : (hasFlag f.accessFlags Acc.final = false ∨ (m.cls = cf ∧ meth.name = "<init>")) ∧ narrow f.type (cv w v) = cv w v ∧ s.fitsSlot cell.cls cell.vm f.slot (cv w v) = true := by
    rw [q2, q3]
    cases hfb : fin with
    | true =>
      rw [hfb] at hfl
      rw [if_pos hfl] at hlay
      have hdecl : y.name = "<init>" ∧ FD y.cls ci k := by
        rcases hfin with h | h
        · rw [hfb] at h; cases h
        · exact h
      obtain ⟨qd, hqd1, hqd2⟩ := hdecl.2
      cases hc.symm.trans hqd1
      have hcf : m.cls = cf := by
        obtain ⟨_, _, c', _, _, _, -, -, hf', -, -, -, hown2, -⟩ := Cond.laysFinal_spec hlay
        have e1 : c' = cf := by have := hi.symm.trans hf'; simp at this; exact this.1.symm
        rw [show (T k).1 = y.cls from hqd2] at hown2
        rw [← e1]; exact Option.some.inj (hown.symm.trans hown2)
      have h6 := u_fits hfc hkC hkind (Or.inr hlay) hi hd2 hnar hfit
      exact ⟨Or.inr ⟨hcf, by rw [hmn]; exact hdecl.1⟩, h6.1, h6.2⟩
    | false =>
      rw [hfb] at hfl
      rw [if_neg (by rw [hfl]; decide)] at hlay
      have h6 := u_store hfc hkC hkind hlay hi hd2 hnar hfit
      exact ⟨Or.inl h6.1, h6.2.1, h6.2.2⟩
  have hknown : cell.vm ≠ .unknown := by rw [q3]; exact fun h => by cases h
  have ha : wz w + a < hp.size := (Array.getElem?_eq_some_iff.mp q1).1
  have hend := kk (hp.setIfInBounds (wz w + a) (cell.setSlot f.slot (cv w v))) (locs ++ [⟨wz w + a, f.slot⟩]) (fin1 _ (by simp [Array.getElem?_setIfInBounds, ha]) (by simp) (fun q hq => by simp [Array.getElem?_setIfInBounds, Ne.symm hq])) hlocs
  rcases hlink with ⟨ref, h1, h2⟩ | ⟨host, h1⟩
  · have hsame : s.fieldFound? ref (T k).2.1 (T k).2.2.1 = some (cf, kf, fi, f) := by
      rcases h2 with h2 | h2
      · rw [h2]; exact hi
      · exact u_same (hts _ h2) _ hi
    exact W.putf hx hb hown (hts _ h1) hsame hst hfull.1 q1 hknown hlts hfull.2.1 hfull.2.2 rfl rfl hd hend
  · have hq := hK.2.1 _ h1
    have hq : va_Nw (.fieldLinkNest y.cls idx (T k).1 (T k).2.1 (T k).2.2.1 host) s := hq
    have hnl : (Cond.fieldLinkNest y.cls idx (T k).1 (T k).2.1 (T k).2.2.1 host).before args s = true := hq.use rfl
    exact va_Wputf hx hb hown hnl hi hst hfull.1 q1 hknown hlts hfull.2.1 hfull.2.2 rfl rfl hd hend
theorem sto_row {α : Type} (I : Nat → Nat → α) (a k : Nat) (v : α) {b : Nat} (h : b ≠ a) : sto I a k v b = I b := sto_n I k v h
theorem x_puti (C : Cok w y cc nL rt d mc ms κ) {a idx ci k : Nat} {ty : FieldType} {fin : Bool} {v : Int32} (hF : FL y.cls idx ci k ty fin) (hty : ty = .int ∨ ((ty = .boolean ∨ ty = .byte) ∧ narrow ty (.int v) = .int v ∧ fits ty (.int v) = true)) (hfin : fin = false ∨ (y.name = "<init>" ∧ FD y.cls ci k)) (hd : decode cc pc = .ok (.putfield idx, 3)) (n : Nat) (hn : pc + 3 = n) (hT : S.1 a = ci)
    (kk : XX w κ Z cs sl n L sk S (sto I a k v) J) : XX w κ Z cs sl pc L (.int v :: .ref a :: sk) S I J := by
  have hk0 : kdt ty = 0 := by rcases hty with rfl | ⟨rfl | rfl, -⟩ <;> rfl
  refine x_putV (v := .int v) (S' := S) (I' := sto I a k v) (J' := J) C hF hd n hn hT ?_ ?_ hfin rfl rfl rfl (fun b hb => ⟨rfl, sto_n I k v hb, rfl⟩) (fun T N hk hf j hj => ?_) kk
  · rcases hty with rfl | ⟨-, h, -⟩
    · rfl
    · exact h
  · rcases hty with rfl | ⟨-, -, h⟩
    · rfl
    · exact h
  · rw [hk0] at hf
    unfold updV
    by_cases hjk : j = k
    · subst hjk
      rw [if_pos rfl]
      unfold fV
      rw [if_pos hf, sto_ss]
      rfl
    · rw [if_neg hjk]
      unfold fV
      rw [sto_kn _ _ _ _ hjk]
theorem x_putl (C : Cok w y cc nL rt d mc ms κ) {a idx ci k : Nat} {fin : Bool} {v : Int64} (hF : FL y.cls idx ci k .long fin) (hfin : fin = false ∨ (y.name = "<init>" ∧ FD y.cls ci k)) (hd : decode cc pc = .ok (.putfield idx, 3)) (n : Nat) (hn : pc + 3 = n) (hT : S.1 a = ci)
    (kk : XX w κ Z cs sl n L sk S I (sto J a k v)) : XX w κ Z cs sl pc L (.long v :: .ref a :: sk) S I J := by
  refine x_putV (v := .long v) (S' := S) (I' := I) (J' := sto J a k v) C hF hd n hn hT rfl rfl hfin rfl rfl rfl (fun b hb => ⟨rfl, rfl, sto_n J k v hb⟩) (fun T N hk hf j hj => ?_) kk
  have hf : fkd (T k).2.2.1 = 2 := hf
  unfold updV
  by_cases hjk : j = k
  · subst hjk
    rw [if_pos rfl]
    unfold fV
    rw [if_neg (by rw [hf]; decide), if_pos hf, sto_ss]
    rfl
  · rw [if_neg hjk]
    unfold fV
    rw [sto_kn _ _ _ _ hjk]
def setR (S : Sh) (a k : Nat) (r : Option Nat) : Sh := (S.1, S.2.1, sto S.2.2.1 a k r, S.2.2.2)
theorem x_putq (C : Cok w y cc nL rt d mc ms κ) {a idx ci k : Nat} {ty : FieldType} {fin : Bool} {r : Option Nat} (hF : FL y.cls idx ci k ty fin) (hty : (∃ s, ty = .object s) ∨ ∃ t, ty = .array t) (hfin : fin = false ∨ (y.name = "<init>" ∧ FD y.cls ci k)) (hd : decode cc pc = .ok (.putfield idx, 3)) (n : Nat) (hn : pc + 3 = n) (hT : S.1 a = ci)
    (kk : XX w κ Z cs sl n L sk (setR S a k r) I J) : XX w κ Z cs sl pc L (va_rf r :: .ref a :: sk) S I J := by
  have hk1 : kdt ty = 1 := by rcases hty with ⟨q, rfl⟩ | ⟨q, rfl⟩ <;> rfl
  refine x_putV (v := va_rf r) (S' := setR S a k r) (I' := I) (J' := J) C hF hd n hn hT ?_ ?_ hfin rfl rfl rfl (fun b hb => ⟨sto_n S.2.2.1 k r hb, rfl, rfl⟩) (fun T N hk hf j hj => ?_) kk
  · rcases hty with ⟨q, rfl⟩ | ⟨q, rfl⟩ <;> cases r <;> rfl
  · rcases hty with ⟨q, rfl⟩ | ⟨q, rfl⟩ <;> cases r <;> rfl
  · rw [hk1] at hf
    unfold updV
    by_cases hjk : j = k
    · subst hjk
      rw [if_pos rfl]
      unfold fV
      rw [if_neg (by rw [hf]; decide), if_neg (by rw [hf]; decide)]
      show cv w (va_rf (sto S.2.2.1 a j r a j)) = _
      rw [sto_ss]
    · rw [if_neg hjk]
      unfold fV
      show (if fkd (T j).2.2.1 = 0 then Value.int (I a j) else if fkd (T j).2.2.1 = 2 then Value.long (J a j) else cv w (va_rf (sto S.2.2.1 a k r a j))) = _
      rw [sto_kn _ _ _ _ hjk]
theorem x_putr (C : Cok w y cc nL rt d mc ms κ) {a idx ci k b : Nat} {ty : FieldType} {fin : Bool} (hF : FL y.cls idx ci k ty fin) (hty : (∃ s, ty = .object s) ∨ ∃ t, ty = .array t) (hfin : fin = false ∨ (y.name = "<init>" ∧ FD y.cls ci k)) (hd : decode cc pc = .ok (.putfield idx, 3)) (n : Nat) (hn : pc + 3 = n) (hT : S.1 a = ci)
    (kk : XX w κ Z cs sl n L sk (setR S a k (some b)) I J) : XX w κ Z cs sl pc L (.ref b :: .ref a :: sk) S I J := x_putq (r := some b) C hF hty hfin hd n hn hT kk
/-! arrays -/
theorem cap_of {N j : Nat} (hj : j < N) (hN : N < 2147483648) : ¬ (nI j < 0 ∨ N ≤ (nI j).toNatClampNeg) := nI_in hj (by omega)
/-- a cell of an array, as the heap has it -/
theorem Rep.arr {w : Wd} {hp : Heap} {S : Sh} {I : Mi} {J : Ml} (h : Rep w hp S I J) {a t : Nat} (ht : S.1 a = 100 + t) (hne : 100 + t ≠ 999) : hp[wz w + a]? = some (arrV (w.2.2.2.1 t) (S.2.1 a) (aV w S I J t a)) := by
  have := (h.2.2.1 a (h.lt ht hne)).2 (by omega)
  rw [ht] at this
  rwa [show 100 + t - 100 = t by omega] at this
theorem Kn.arr {w : Wd} {s : State} (h : Kn w s) (t : Nat) (ht : t < 12) : ArrOfT s (w.2.2.2.1 t) (xAty t) ∧ va_RA s (w.2.2.2.1 t) (xAty t) := by
  refine h.1.2 t (w.2.2.2.1 t, xAty t) ?_
  simp [xTys, ht]
theorem x_iald (C : Cok w y cc nL rt d mc ms κ) {a N j : Nat} {i v : Int32} (hd : decode cc pc = .ok (.iaload, 1)) (n : Nat) (hn : pc + 1 = n) (hT : S.1 a = 100) (hN : S.2.1 a = N) (hi : i = nI j) (hj : j < N) (hN2 : N < 2147483648) (hv : I a j = v)
    (kk : XX w κ Z cs sl n L (.int v :: sk) S I J) : XX w κ Z cs sl pc L (.int i :: .ref a :: sk) S I J := by
  intro hp locs ls hR hL hl
  subst hn
  subst hi
  have hc := hR.arr (t := 0) hT (by decide)
  rw [hN] at hc
  have hA := (C.2.2.2.2.2.1.arr 0 (by decide)).1 N (aV w S I J 0 a)
  have hk := kk hp locs ls hR hL hl
  show W _ _ _ _ _ _ _ _ _ _ hp locs cs sl Z (F0 _ pc ls (.int (nI j) :: .ref (rho w a) :: sk.map (cv w)))
  rw [rho_of hR hT (by decide)]
  exact W.iald C.1 C.2.1 hc hA (fun q => by cases q) (by rw [arrV_size]; exact cap_of hj hN2) (by rw [nI_clamp (by omega), arrV_read _ _ hj, ← hv]; rfl) rfl rfl hd hk
theorem x_bald (C : Cok w y cc nL rt d mc ms κ) {a N j : Nat} {i v : Int32} (hd : decode cc pc = .ok (.baload, 1)) (n : Nat) (hn : pc + 1 = n) (hT : S.1 a = 102) (hN : S.2.1 a = N) (hi : i = nI j) (hj : j < N) (hN2 : N < 2147483648) (hv : I a j = v)
    (kk : XX w κ Z cs sl n L (.int v :: sk) S I J) : XX w κ Z cs sl pc L (.int i :: .ref a :: sk) S I J := by
  intro hp locs ls hR hL hl
  subst hn
  subst hi
  have hc := hR.arr (t := 2) hT (by decide)
  rw [hN] at hc
  have hA := (C.2.2.2.2.2.1.arr 2 (by decide)).1 N (aV w S I J 2 a)
  have hk := kk hp locs ls hR hL hl
  show W _ _ _ _ _ _ _ _ _ _ hp locs cs sl Z (F0 _ pc ls (.int (nI j) :: .ref (rho w a) :: sk.map (cv w)))
  rw [rho_of hR hT (by decide)]
  exact W.bald C.1 C.2.1 hc hA (fun q => by cases q) (by rw [arrV_size]; exact cap_of hj hN2) (by rw [nI_clamp (by omega), arrV_read _ _ hj, ← hv]; rfl) rfl rfl hd hk
theorem x_zald (C : Cok w y cc nL rt d mc ms κ) {a N j : Nat} {i v : Int32} (hd : decode cc pc = .ok (.baload, 1)) (n : Nat) (hn : pc + 1 = n) (hT : S.1 a = 101) (hN : S.2.1 a = N) (hi : i = nI j) (hj : j < N) (hN2 : N < 2147483648) (hv : I a j = v)
    (kk : XX w κ Z cs sl n L (.int v :: sk) S I J) : XX w κ Z cs sl pc L (.int i :: .ref a :: sk) S I J := by
  intro hp locs ls hR hL hl
  subst hn
  subst hi
  have hc := hR.arr (t := 1) hT (by decide)
  rw [hN] at hc
  have hA := (C.2.2.2.2.2.1.arr 1 (by decide)).1 N (aV w S I J 1 a)
  have hk := kk hp locs ls hR hL hl
  show W _ _ _ _ _ _ _ _ _ _ hp locs cs sl Z (F0 _ pc ls (.int (nI j) :: .ref (rho w a) :: sk.map (cv w)))
  rw [rho_of hR hT (by decide)]
  exact W.zald C.1 C.2.1 hc hA (fun q => by cases q) (by rw [arrV_size]; exact cap_of hj hN2) (by rw [nI_clamp (by omega), arrV_read _ _ hj, ← hv]; rfl) rfl rfl hd hk
theorem x_lald (C : Cok w y cc nL rt d mc ms κ) {a N j : Nat} {i : Int32} {v : Int64} (hd : decode cc pc = .ok (.laload, 1)) (n : Nat) (hn : pc + 1 = n) (hT : S.1 a = 103) (hN : S.2.1 a = N) (hi : i = nI j) (hj : j < N) (hN2 : N < 2147483648) (hv : J a j = v)
    (kk : XX w κ Z cs sl n L (.long v :: sk) S I J) : XX w κ Z cs sl pc L (.int i :: .ref a :: sk) S I J := by
  intro hp locs ls hR hL hl
  subst hn
  subst hi
  have hc := hR.arr (t := 3) hT (by decide)
  rw [hN] at hc
  have hA := (C.2.2.2.2.2.1.arr 3 (by decide)).1 N (aV w S I J 3 a)
  have hk := kk hp locs ls hR hL hl
  show W _ _ _ _ _ _ _ _ _ _ hp locs cs sl Z (F0 _ pc ls (.int (nI j) :: .ref (rho w a) :: sk.map (cv w)))
  rw [rho_of hR hT (by decide)]
  exact W.lald C.1 C.2.1 hc hA (fun q => by cases q) (by rw [arrV_size]; exact cap_of hj hN2) (by rw [nI_clamp (by omega), arrV_read _ _ hj, ← hv]; rfl) rfl rfl hd hk
theorem x_aald (C : Cok w y cc nL rt d mc ms κ) {a N j t : Nat} {i : Int32} {r : Option Nat} (hd : decode cc pc = .ok (.aaload, 1)) (n : Nat) (hn : pc + 1 = n) (hT : S.1 a = 100 + t) (ht : 4 ≤ t ∧ t < 12) (hN : S.2.1 a = N) (hi : i = nI j) (hj : j < N) (hN2 : N < 2147483648) (hv : S.2.2.1 a j = r)
    (kk : XX w κ Z cs sl n L (va_rf r :: sk) S I J) : XX w κ Z cs sl pc L (.int i :: .ref a :: sk) S I J := by
  intro hp locs ls hR hL hl
  subst hn
  subst hi
  have hc := hR.arr (t := t) hT (by omega)
  rw [hN] at hc
  have hA := (C.2.2.2.2.2.1.arr t ht.2).1 N (aV w S I J t a)
  have hk := kk hp locs ls hR hL hl
  have hty : (xAty t).isReference = true := by
    obtain ⟨h1, h2⟩ := ht
    have : t = 4 ∨ t = 5 ∨ t = 6 ∨ t = 7 ∨ t = 8 ∨ t = 9 ∨ t = 10 ∨ t = 11 := by omega
    rcases this with h | h | h | h | h | h | h | h <;> (subst h; rfl)
  show W _ _ _ _ _ _ _ _ _ _ hp locs cs sl Z (F0 _ pc ls (.int (nI j) :: .ref (rho w a) :: sk.map (cv w)))
  rw [rho_of hR hT (by omega)]
  refine W.aald C.1 C.2.1 hc hA hty (fun q => by cases q) (by rw [arrV_size]; exact cap_of hj hN2) ?_ rfl rfl hd hk
  rw [nI_clamp (by omega), arrV_read _ _ hj, ← hv]
  unfold aV
  rw [if_neg (by omega), if_neg (by omega)]
theorem x_aaldr (C : Cok w y cc nL rt d mc ms κ) {a N j t b : Nat} {i : Int32} (hd : decode cc pc = .ok (.aaload, 1)) (n : Nat) (hn : pc + 1 = n) (hT : S.1 a = 100 + t) (ht : 4 ≤ t ∧ t < 12) (hN : S.2.1 a = N) (hi : i = nI j) (hj : j < N) (hN2 : N < 2147483648) (hv : S.2.2.1 a j = some b)
    (kk : XX w κ Z cs sl n L (.ref b :: sk) S I J) : XX w κ Z cs sl pc L (.int i :: .ref a :: sk) S I J := x_aald (r := some b) C hd n hn hT ht hN hi hj hN2 hv kk
theorem x_alen (C : Cok w y cc nL rt d mc ms κ) {a N t : Nat} (hd : decode cc pc = .ok (.arraylength, 1)) (n : Nat) (hn : pc + 1 = n) (hT : S.1 a = 100 + t) (ht : t < 12) (hN : S.2.1 a = N)
    (kk : XX w κ Z cs sl n L (.int (nI N) :: sk) S I J) : XX w κ Z cs sl pc L (.ref a :: sk) S I J := by
  intro hp locs ls hR hL hl
  subst hn
  have hc := hR.arr (t := t) hT (by omega)
  rw [hN] at hc
  have hA := (C.2.2.2.2.2.1.arr t ht).1 N (aV w S I J t a)
  have hk := kk hp locs ls hR hL hl
  show W _ _ _ _ _ _ _ _ _ _ hp locs cs sl Z (F0 _ pc ls (.ref (rho w a) :: sk.map (cv w)))
  rw [rho_of hR hT (by omega)]
  exact W.alen (n := nI N) C.1 C.2.1 hc hA (by rw [arrV_size]; rfl) rfl rfl hd hk
/-- a store into an array -/
theorem Rep.aput {w : Wd} {hp hp' : Heap} {S S' : Sh} {I I' : Mi} {J J' : Ml} (hR : Rep w hp S I J) {a t N j : Nat} {v : Value} (ht : S.1 a = 100 + t) (hne : 100 + t ≠ 999) (hN : S.2.1 a = N) (hj : j < N) (hS1 : S'.1 = S.1) (hS2 : S'.2.1 = S.2.1) (hS4 : S'.2.2.2 = S.2.2.2) (hneq : ∀ b, b ≠ a → S'.2.2.1 b = S.2.2.1 b ∧ I' b = I b ∧ J' b = J b)
    (hv : ∀ i, aV w S' I' J' t a i = updV (aV w S I J t a) j v i)
    (e1 : hp'[wz w + a]? = some ((arrV (w.2.2.2.1 t) N (aV w S I J t a)).setSlot j v)) (e2 : hp'.size = hp.size) (e3 : ∀ q, q ≠ wz w + a → hp'[q]? = hp[q]?) : Rep w hp' S' I' J' := by
  refine ⟨by rw [e2, hS4]; exact hR.1, fun q hq => by rw [e3 q (by omega)]; exact hR.2.1 q hq, fun b hb => ?_, fun b hb => by rw [hS1]; exact hR.2.2.2.1 b (by rw [← hS4]; exact hb), by rw [hS4]; exact hR.2.2.2.2⟩
  by_cases hba : b = a
  · subst hba
    refine ⟨fun q => by rw [hS1, ht] at q; omega, fun _ => ?_⟩
    rw [hS1, ht, hS2, hN, show 100 + t - 100 = t by omega, e1, arrV_store]
    have : updV (aV w S I J t b) j v = aV w S' I' J' t b := funext fun i => (hv i).symm
    rw [this]
  · obtain ⟨g3, g4, g5⟩ := hneq b hba
    exact (hR.2.2.1 b (by rw [← hS4]; exact hb)).keep (e3 _ (by omega)) (by rw [hS1]) (by rw [hS2]) g3 g4 g5
theorem locs_add {w : Wd} {locs : List Loc} {a i : Nat} (hL : ∀ q ∈ locs, wz w ≤ q.base) : ∀ q ∈ locs ++ [⟨wz w + a, i⟩], wz w ≤ q.base := by
  intro q hq
  rcases List.mem_append.mp hq with h | h
  · exact hL q h
  · rw [List.mem_singleton.mp h]; exact Nat.le_add_right _ _
theorem aV_sto {w : Wd} {S : Sh} {I : Mi} {J : Ml} {t a j : Nat} (ht : t < 3) (v : Int32) (i : Nat) : aV w S (sto I a j v) J t a i = updV (aV w S I J t a) j (.int v) i := by
  unfold updV aV
  rw [if_pos ht]
  by_cases h : i = j
  · subst h
    rw [if_pos rfl, sto_ss]
  · rw [if_neg h, if_pos ht, sto_kn _ _ _ _ h]
theorem x_iast (C : Cok w y cc nL rt d mc ms κ) {a N j : Nat} {i v : Int32} (hd : decode cc pc = .ok (.iastore, 1)) (n : Nat) (hn : pc + 1 = n) (hT : S.1 a = 100) (hN : S.2.1 a = N) (hi : i = nI j) (hj : j < N) (hN2 : N < 2147483648)
    (kk : XX w κ Z cs sl n L sk S (sto I a j v) J) : XX w κ Z cs sl pc L (.int v :: .int i :: .ref a :: sk) S I J := by
  intro hp locs ls hR hL hl
  subst hn
  subst hi
  have hc := hR.arr (t := 0) hT (by decide)
  rw [hN] at hc
  have hA := (C.2.2.2.2.2.1.arr 0 (by decide)).1 N (aV w S I J 0 a)
  show W _ _ _ _ _ _ _ _ _ _ hp locs cs sl Z (F0 _ pc ls (.int v :: .int (nI j) :: .ref (rho w a) :: sk.map (cv w)))
  rw [rho_of hR hT (by decide)]
  refine W.iast C.1 C.2.1 hc hA (fun q => by cases q) (by rw [arrV_size]; exact cap_of hj hN2) rfl rfl hd fun H' e1 e2 e3 => ?_
  rw [nI_clamp (by omega)] at e1 ⊢
  exact kk H' _ ls (hR.aput (t := 0) hT (by decide) hN hj rfl rfl rfl (fun b hb => ⟨rfl, sto_n I j v hb, rfl⟩) (aV_sto (by decide) v) e1 e2 e3) (locs_add hL) hl
theorem x_bast (C : Cok w y cc nL rt d mc ms κ) {a N j : Nat} {i v : Int32} (hd : decode cc pc = .ok (.bastore, 1)) (n : Nat) (hn : pc + 1 = n) (hT : S.1 a = 102) (hN : S.2.1 a = N) (hi : i = nI j) (hj : j < N) (hN2 : N < 2147483648) (hv : narrow .byte (.int v) = .int v)
    (kk : XX w κ Z cs sl n L sk S (sto I a j v) J) : XX w κ Z cs sl pc L (.int v :: .int i :: .ref a :: sk) S I J := by
  intro hp locs ls hR hL hl
  subst hn
  subst hi
  have hc := hR.arr (t := 2) hT (by decide)
  rw [hN] at hc
  have hA := (C.2.2.2.2.2.1.arr 2 (by decide)).1 N (aV w S I J 2 a)
  show W _ _ _ _ _ _ _ _ _ _ hp locs cs sl Z (F0 _ pc ls (.int v :: .int (nI j) :: .ref (rho w a) :: sk.map (cv w)))
  rw [rho_of hR hT (by decide)]
  refine W.bast C.1 C.2.1 hc hA (fun q => by cases q) (by rw [arrV_size]; exact cap_of hj hN2) rfl rfl hd fun H' e1 e2 e3 => ?_
  rw [nI_clamp (by omega)] at e1 ⊢
  rw [hv] at e1
  exact kk H' _ ls (hR.aput (t := 2) hT (by decide) hN hj rfl rfl rfl (fun b hb => ⟨rfl, sto_n I j v hb, rfl⟩) (aV_sto (by decide) v) e1 e2 e3) (locs_add hL) hl
theorem x_zast (C : Cok w y cc nL rt d mc ms κ) {a N j : Nat} {i v : Int32} (hd : decode cc pc = .ok (.bastore, 1)) (n : Nat) (hn : pc + 1 = n) (hT : S.1 a = 101) (hN : S.2.1 a = N) (hi : i = nI j) (hj : j < N) (hN2 : N < 2147483648) (hv : narrow .boolean (.int v) = .int v)
    (kk : XX w κ Z cs sl n L sk S (sto I a j v) J) : XX w κ Z cs sl pc L (.int v :: .int i :: .ref a :: sk) S I J := by
  intro hp locs ls hR hL hl
  subst hn
  subst hi
  have hc := hR.arr (t := 1) hT (by decide)
  rw [hN] at hc
  have hA := (C.2.2.2.2.2.1.arr 1 (by decide)).1 N (aV w S I J 1 a)
  show W _ _ _ _ _ _ _ _ _ _ hp locs cs sl Z (F0 _ pc ls (.int v :: .int (nI j) :: .ref (rho w a) :: sk.map (cv w)))
  rw [rho_of hR hT (by decide)]
  refine W.zast C.1 C.2.1 hc hA (fun q => by cases q) (by rw [arrV_size]; exact cap_of hj hN2) rfl rfl hd fun H' e1 e2 e3 => ?_
  rw [nI_clamp (by omega)] at e1 ⊢
  rw [hv] at e1
  exact kk H' _ ls (hR.aput (t := 1) hT (by decide) hN hj rfl rfl rfl (fun b hb => ⟨rfl, sto_n I j v hb, rfl⟩) (aV_sto (by decide) v) e1 e2 e3) (locs_add hL) hl
theorem x_last (C : Cok w y cc nL rt d mc ms κ) {a N j : Nat} {i : Int32} {v : Int64} (hd : decode cc pc = .ok (.lastore, 1)) (n : Nat) (hn : pc + 1 = n) (hT : S.1 a = 103) (hN : S.2.1 a = N) (hi : i = nI j) (hj : j < N) (hN2 : N < 2147483648)
    (kk : XX w κ Z cs sl n L sk S I (sto J a j v)) : XX w κ Z cs sl pc L (.long v :: .int i :: .ref a :: sk) S I J := by
  intro hp locs ls hR hL hl
  subst hn
  subst hi
  have hc := hR.arr (t := 3) hT (by decide)
  rw [hN] at hc
  have hA := (C.2.2.2.2.2.1.arr 3 (by decide)).1 N (aV w S I J 3 a)
  show W _ _ _ _ _ _ _ _ _ _ hp locs cs sl Z (F0 _ pc ls (.long v :: .int (nI j) :: .ref (rho w a) :: sk.map (cv w)))
  rw [rho_of hR hT (by decide)]
  refine W.last C.1 C.2.1 hc hA (fun q => by cases q) (by rw [arrV_size]; exact cap_of hj hN2) rfl rfl hd fun H' e1 e2 e3 => ?_
  rw [nI_clamp (by omega)] at e1 ⊢
  refine kk H' _ ls (hR.aput (t := 3) hT (by decide) hN hj rfl rfl rfl (fun b hb => ⟨rfl, rfl, sto_n J j v hb⟩) (fun i => ?_) e1 e2 e3) (locs_add hL) hl
  unfold updV aV
  rw [if_neg (by decide), if_pos rfl]
  by_cases h : i = j
  · subst h
    rw [if_pos rfl, sto_ss]
  · rw [if_neg h, if_neg (by decide), if_pos rfl, sto_kn _ _ _ _ h]
end Heap
