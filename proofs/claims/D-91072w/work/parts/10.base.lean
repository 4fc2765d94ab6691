/-! THE X LOGIC: abstract heaps with total functions; abstract address a stands for the real address (size at the start) + a -/
abbrev Mi : Type := Nat → Nat → Int32
abbrev Ml : Type := Nat → Nat → Int64
/-- tags, lengths, references, number of cells -/
abbrev Sh : Type := (Nat → Nat) × (Nat → Nat) × (Nat → Nat → Option Nat) × Nat
/-- the heap at the start, class numbers, field slots, array classes, outer addresses -/
abbrev Wd : Type := Heap × (Nat → ClassId) × (Nat → Nat → Nat) × (Nat → ClassId) × (Nat → Nat)
def wz (w : Wd) : Nat := w.1.size
def rho (w : Wd) (b : Nat) : Nat := if b < 10000000 then wz w + b else w.2.2.2.2 (b - 10000000)
def cv (w : Wd) : Value → Value := fun v => match v with
  | .ref b => .ref (rho w b)
  | x => x
theorem cv_cat (w : Wd) (v : Value) : (cv w v).category = v.category := by cases v <;> rfl
theorem cv_rf (w : Wd) (r : Option Nat) : cv w (va_rf r) = va_rf (r.map (rho w)) := by cases r <;> rfl
theorem cv_rfr (w : Wd) (r : Option Nat) : (∃ b, cv w (va_rf r) = .ref b) ∨ cv w (va_rf r) = .null := by
  cases r with
  | none => exact Or.inr rfl
  | some b => exact Or.inl ⟨_, rfl⟩
/-- a new row of memory -/
def wr {α : Type} (I : Nat → Nat → α) (a : Nat) (f : Nat → α) : Nat → Nat → α := fun b => if b = a then f else I b
theorem wr_s {α : Type} (I : Nat → Nat → α) (a : Nat) (f : Nat → α) : wr I a f a = f := if_pos rfl
theorem wr_n {α : Type} (I : Nat → Nat → α) {a b : Nat} (f : Nat → α) (h : b ≠ a) : wr I a f b = I b := if_neg h
/-- a store -/
def sto {α : Type} (I : Nat → Nat → α) (a i : Nat) (v : α) : Nat → Nat → α := wr I a (va_up (I a) i v)
theorem sto_at {α : Type} (I : Nat → Nat → α) (a i : Nat) (v : α) (b j : Nat) : sto I a i v b j = if b = a ∧ j = i then v else I b j := by
  unfold sto wr
  by_cases h : b = a
  · subst h
    by_cases h2 : j = i
    · subst h2
      simp [va_up]
    · simp [va_up, h2]
  · simp [h]
theorem sto_ss {α : Type} (I : Nat → Nat → α) (a i : Nat) (v : α) : sto I a i v a i = v := by rw [sto_at]; simp
theorem sto_a {α : Type} (I : Nat → Nat → α) (a i : Nat) (v : α) : sto I a i v a = va_up (I a) i v := wr_s _ _ _
theorem sto_n {α : Type} (I : Nat → Nat → α) {a b : Nat} (i : Nat) (v : α) (h : b ≠ a) : sto I a i v b = I b := wr_n _ _ h
/-! the classes, by number -/
def xCl : List vw_C := [(RX1, TX1, 39), (RX3, TX3, 78), (RX2, TX2, 5), (RX4, TX4, 11), (RX5, TX5, 6), (RX6, TX6, 4), (RX7, TX7, 6), (RX8, TX8, 7), (RX10, TX10, 1), (RX11, TX11, 1), (RX13, TX13, 3), (RX14, TX14, 3), (RX15, TX15, 2), (RX16, TX16, 3), (RJ2, TJ2, 3), (RJ16, TJ16, 6)]
def xAty : Nat → FieldType := fun j => match j with
  | 0 => .int
  | 1 => .boolean
  | 2 => .byte
  | 3 => .long
  | 4 => .object "TourRooms$Person"
  | 5 => .object "TourRooms$Town"
  | 6 => .object "TourRooms$Room"
  | 7 => .object "java/lang/Object"
  | 8 => .array .int
  | 9 => .array .boolean
  | 10 => .array .long
  | _ => .array (.array .int)
abbrev xTys (w : Wd) : List (ClassId × FieldType) := (List.range 12).map (fun j => (w.2.2.2.1 j, xAty j))
def fkd (d : String) : Nat := if d = "I" then 0 else if d = "Z" then 0 else if d = "B" then 0 else if d = "J" then 2 else 1
def fV (w : Wd) (S : Sh) (I : Mi) (J : Ml) (T : u_T) (a i : Nat) : Value := if fkd (T i).2.2.1 = 0 then .int (I a i) else if fkd (T i).2.2.1 = 2 then .long (J a i) else cv w (va_rf (S.2.2.1 a i))
def aV (w : Wd) (S : Sh) (I : Mi) (J : Ml) (j a i : Nat) : Value := if j < 3 then .int (I a i) else if j = 3 then .long (J a i) else cv w (va_rf (S.2.2.1 a i))
def AtC (w : Wd) (S : Sh) (I : Mi) (J : Ml) (hp : Heap) (a : Nat) : Prop :=
  (S.1 a < 100 → ∃ r : vw_C, xCl[S.1 a]? = some r ∧ t_OB (wz w + a) (w.2.1 (S.1 a)) r.2.2 (w.2.2.1 (S.1 a)) hp (fV w S I J r.2.1 a)) ∧
  (100 ≤ S.1 a → hp[wz w + a]? = some (arrV (w.2.2.2.1 (S.1 a - 100)) (S.2.1 a) (aV w S I J (S.1 a - 100) a)))
def Rep (w : Wd) (hp : Heap) (S : Sh) (I : Mi) (J : Ml) : Prop :=
  hp.size = wz w + S.2.2.2 ∧ (∀ q, q < wz w → hp[q]? = w.1[q]?) ∧ (∀ a, a < S.2.2.2 → AtC w S I J hp a) ∧ (∀ a, S.2.2.2 ≤ a → S.1 a = 999) ∧ S.2.2.2 ≤ 10000000
theorem Rep.lt {w : Wd} {hp : Heap} {S : Sh} {I : Mi} {J : Ml} (h : Rep w hp S I J) {a k : Nat} (ht : S.1 a = k) (hk : k ≠ 999) : a < S.2.2.2 := by
  rcases Nat.lt_or_ge a S.2.2.2 with q | q
  · exact q
  · exact absurd (ht.symm.trans (h.2.2.2.1 a q)) hk
theorem rho_of {w : Wd} {hp : Heap} {S : Sh} {I : Mi} {J : Ml} (h : Rep w hp S I J) {a k : Nat} (ht : S.1 a = k) (hk : k ≠ 999) : rho w a = wz w + a := by
  have h1 := h.lt ht hk
  have h2 := h.2.2.2.2
  unfold rho
  rw [if_pos (by omega)]
/-! what is known of the tables all through: the classes, the array classes, the words that don't ride -/
def xNF : List (String × Nat × String × String × String × String) := [("TourRooms", 332, "TourRooms$State", "left", "I", "TourRooms"), ("TourRooms", 337, "TourRooms$State", "held", "I", "TourRooms"), ("TourRooms", 342, "TourRooms$State", "used", "I", "TourRooms"), ("TourRooms", 346, "TourRooms$State", "people", "I", "TourRooms"), ("TourRooms", 348, "TourRooms$State", "season", "I", "TourRooms"), ("TourRooms", 425, "TourRooms$Person", "number", "I", "TourRooms"), ("TourRooms", 422, "TourRooms$Person", "sort", "I", "TourRooms"), ("TourRooms", 416, "TourRooms$Person", "diet", "I", "TourRooms"), ("TourRooms", 419, "TourRooms$Person", "shares", "Z", "TourRooms"), ("TourRooms", 211, "TourRooms$Person", "low", "Z", "TourRooms"), ("TourRooms", 172, "TourRooms$Person", "from", "I", "TourRooms"), ("TourRooms", 175, "TourRooms$Person", "to", "I", "TourRooms"), ("TourRooms", 145, "TourRooms$Person", "bars", "I", "TourRooms"), ("TourRooms", 410, "TourRooms$Person", "owes", "I", "TourRooms"), ("TourRooms", 137, "TourRooms$Person", "isGone", "Z", "TourRooms"), ("TourRooms", 141, "TourRooms$Person", "friend", "LTourRooms$Person;", "TourRooms"), ("TourRooms", 121, "TourRooms$Town", "nights", "I", "TourRooms"), ("TourRooms", 118, "TourRooms$Town", "first", "I", "TourRooms"), ("TourRooms", 187, "TourRooms$Town", "rooms", "[LTourRooms$Room;", "TourRooms"), ("TourRooms", 128, "TourRooms$Town", "roomMany", "I", "TourRooms"), ("TourRooms", 148, "TourRooms$Town", "list", "[I", "TourRooms"), ("TourRooms", 291, "TourRooms$Town", "contract", "Ljava/util/ArrayList;", "TourRooms"), ("TourRooms", 205, "TourRooms$Room", "beds", "I", "TourRooms"), ("TourRooms", 235, "TourRooms$Room", "price", "I", "TourRooms"), ("TourRooms", 214, "TourRooms$Room", "low", "Z", "TourRooms"), ("TourRooms", 196, "TourRooms$Room", "held", "Z", "TourRooms"), ("TourRooms", 297, "TourRooms$Wrong", "fault", "I", "TourRooms"), ("TourRooms", 311, "TourRooms$Rule", "kind", "I", "TourRooms"), ("TourRooms", 324, "TourRooms$Rule", "tells", "LTourRooms$Exp;", "TourRooms"), ("TourRooms", 314, "TourRooms$Rule", "when", "LTourRooms$Exp;", "TourRooms"), ("TourRooms$About", 13, "TourRooms$State", "left", "I", "TourRooms"), ("TourRooms$About", 18, "TourRooms$State", "held", "I", "TourRooms"), ("TourRooms$About", 21, "TourRooms$State", "used", "I", "TourRooms"), ("TourRooms$About", 24, "TourRooms$State", "people", "I", "TourRooms"), ("TourRooms$About", 27, "TourRooms$State", "season", "I", "TourRooms"), ("TourRooms$Town", 48, "TourRooms$Room", "price", "I", "TourRooms"), ("TourRooms$Town", 40, "TourRooms$Room", "held", "Z", "TourRooms"), ("TourRooms$Reader", 19, "TourRooms", "tape", "[B", "TourRooms"), ("TourRooms$Reader", 15, "TourRooms", "taped", "I", "TourRooms")]
def xNM : List (String × Nat × MethodName × String) := [("TourRooms", 47, ⟨"TourRooms$State", "<init>", "()V"⟩, "TourRooms"), ("TourRooms", 284, ⟨"TourRooms$Reader", "<init>", "(LTourRooms;)V"⟩, "TourRooms"), ("TourRooms$Fixed", 1, ⟨"TourRooms$Exp", "<init>", "()V"⟩, "TourRooms"), ("TourRooms$About", 1, ⟨"TourRooms$Exp", "<init>", "()V"⟩, "TourRooms"), ("TourRooms$Two", 1, ⟨"TourRooms$Exp", "<init>", "()V"⟩, "TourRooms"), ("TourRooms$Person", 35, ⟨"TourRooms", "in", "(III)Z"⟩, "TourRooms")]
def xND : List MethodName := [⟨"java/lang/Throwable", "<init>", "()V"⟩, ⟨"java/lang/Throwable", "<init>", "(Ljava/lang/String;)V"⟩, ⟨"java/lang/Exception", "<init>", "()V"⟩, ⟨"java/lang/Exception", "<init>", "(Ljava/lang/String;)V"⟩, ⟨"java/lang/RuntimeException", "<init>", "()V"⟩, ⟨"java/lang/RuntimeException", "<init>", "(Ljava/lang/String;)V"⟩, ⟨"java/lang/Object", "getClass", "()Ljava/lang/Class;"⟩, ⟨"TourRooms$Two", "by", "(II)I"⟩, ⟨"TourRooms$Exp", "of", "(LTourRooms$State;)I"⟩]
def xNC : List (String × String) := [("java/lang/Throwable", "java/lang/Object"), ("java/util/NoSuchElementException", "java/util/NoSuchElementException"), ("java/util/NoSuchElementException", "java/lang/Object"), ("java/util/ArrayList", "java/lang/Object"), ("java/lang/String", "java/lang/Object"), ("TourRooms", "java/lang/Object"), ("TourRooms$Fixed", "java/lang/Object"), ("TourRooms$About", "java/lang/Object"), ("TourRooms$Sum", "java/lang/Object"), ("TourRooms$Test", "java/lang/Object"), ("TourRooms$Both", "java/lang/Object"), ("TourRooms$Rule", "java/lang/Object"), ("TourRooms$State", "java/lang/Object"), ("TourRoomsModel", "java/lang/Object"), ("TourRooms$Person", "java/lang/Object"), ("TourRooms$Town", "java/lang/Object"), ("TourRooms$Room", "java/lang/Object"), ("TourRooms$Reader", "java/lang/Object"), ("TourRooms$Wrong", "TourRooms$Wrong"), ("TourRooms$Wrong", "java/lang/Object"), ("[B", "java/lang/Object"), ("[I", "java/lang/Object"), ("[J", "java/lang/Object"), ("[LTourRooms$Person;", "java/lang/Object"), ("[LTourRooms$Room;", "java/lang/Object"), ("[LTourRooms$Town;", "java/lang/Object"), ("[Ljava/lang/Object;", "java/lang/Object"), ("[Z", "java/lang/Object"), ("[[I", "java/lang/Object"), ("[[J", "java/lang/Object"), ("[[Z", "java/lang/Object"), ("[[[I", "java/lang/Object")]
def xLen : List Nat := [21, 29, 4, 5]
def xByt : List (List Int32) := [[102, 101, 101, 32, 98, 97, 99, 107, 32, 114, 101, 102, 117, 110, 100, 32, 102, 114, 101, 101, 32], [108, 101, 102, 116, 32, 104, 101, 108, 100, 32, 117, 115, 101, 100, 32, 112, 101, 111, 112, 108, 101, 32, 115, 101, 97, 115, 111, 110, 32], [97, 110, 100, 32], [119, 104, 101, 110, 32]]
/-- the heap's old part: String constants, statics -/
def Kx (w : Wd) (U : State) : Prop :=
  vk_S 4 xLen xByt (fun i => w.2.2.2.2 i) (fun i => w.2.2.2.2 (i + 4)) (fun q => wz w ≤ q) U w.1 ∧
  (vk_R "TourRooms$Reader" 79 "fee back refund free " (w.2.2.2.2 0) U ∧ vk_R "TourRooms$Reader" 136 "left held used people season " (w.2.2.2.2 1) U ∧ vk_R "TourRooms$Reader" 110 "and " (w.2.2.2.2 2) U ∧ vk_R "TourRooms$Reader" 92 "when " (w.2.2.2.2 3) U) ∧
  (va_Z "java/util/ArrayList" "EMPTY_ELEMENTDATA" "[Ljava/lang/Object;" (.ref (w.2.2.2.2 8)) (fun q => wz w ≤ q) U w.1 ∧ va_Z "java/util/ArrayList" "DEFAULTCAPACITY_EMPTY_ELEMENTDATA" "[Ljava/lang/Object;" (.ref (w.2.2.2.2 9)) (fun q => wz w ≤ q) U w.1 ∧ va_Z "java/lang/String" "COMPACT_STRINGS" "Z" (.int 1) (fun q => wz w ≤ q) U w.1) ∧
  (va_T (.object "java/lang/Object") (w.2.2.2.2 8) 0 (fun _ => .null) (fun q => wz w ≤ q) U w.1 ∧ va_T (.object "java/lang/Object") (w.2.2.2.2 9) 0 (fun _ => .null) (fun q => wz w ≤ q) U w.1 ∧ w.2.2.2.2 8 ≠ w.2.2.2.2 9) ∧
  (va_Zq "java/lang/Throwable" "UNASSIGNED_STACK" "[Ljava/lang/StackTraceElement;" (fun q => wz w ≤ q) U w.1 ∧ va_Zq "java/lang/Throwable" "SUPPRESSED_SENTINEL" "Ljava/util/List;" (fun q => wz w ≤ q) U w.1)
theorem Kx.warm {w : Wd} {s U : State} (hW : s.WarmedH U.vm) (h : Kx w s) : Kx w U := by
  obtain ⟨h1, ⟨r1, r2, r3, r4⟩, ⟨z1, z2, z3⟩, ⟨t1, t2, t3⟩, u1, u2⟩ := h
  exact ⟨h1.moved hW.alike, ⟨r1.warm hW, r2.warm hW, r3.warm hW, r4.warm hW⟩, ⟨z1.moved hW.alike, z2.moved hW.alike, z3.moved hW.alike⟩, ⟨t1.moved hW.alike, t2.moved hW.alike, t3⟩, u1.moved hW.alike, u2.moved hW.alike⟩
theorem Kx.same {w : Wd} {s U : State} (hv : s.vm = U.vm) (h : Kx w s) : Kx w U := by
  obtain ⟨h1, ⟨r1, r2, r3, r4⟩, ⟨z1, z2, z3⟩, ⟨t1, t2, t3⟩, u1, u2⟩ := h
  have ha : s.vm.Alike U.vm := by rw [hv]; exact Vm.Alike.refl _
  exact ⟨h1.moved ha, ⟨r1.same hv.symm, r2.same hv.symm, r3.same hv.symm, r4.same hv.symm⟩, ⟨z1.moved ha, z2.moved ha, z3.moved ha⟩, ⟨t1.moved ha, t2.moved ha, t3⟩, u1.moved ha, u2.moved ha⟩
def Kn (w : Wd) (U : State) : Prop := va_K (w.2.1, w.2.2.1) xCl (xTys w) U ∧ (∀ q ∈ xNF, va_Nw (.fieldLinkNest q.1 q.2.1 q.2.2.1 q.2.2.2.1 q.2.2.2.2.1 q.2.2.2.2.2) U) ∧ (∀ q ∈ xNM, va_Nw (.methodLinkNest q.1 q.2.1 q.2.2.1 q.2.2.2) U) ∧ (∀ q ∈ xND, va_Nw (.declares q) U) ∧ (∀ q ∈ xNC, va_Nw (.castable q.1 q.2) U) ∧ (∀ C ∈ ["TourRooms$Person", "TourRooms$Town", "TourRooms$Room", "java/lang/Object"], va_AO C U) ∧ Kx w U
theorem Kn.warm {w : Wd} {s U : State} (hW : s.WarmedH U.vm) (h : Kn w s) : Kn w U := by
  obtain ⟨h1, h2, h3, h4, h5, h6, h7⟩ := h
  exact ⟨va_K.moved hW.alike h1, fun q hq => (h2 q hq).warmF hW, fun q hq => (h3 q hq).warmM hW, fun q hq => (h4 q hq).warmD hW, fun q hq => (h5 q hq).warmC hW, fun q hq => (h6 q hq).moved hW.alike, h7.warm hW⟩
theorem Kn.same {w : Wd} {s U : State} (hv : s.vm = U.vm) (h : Kn w s) : Kn w U := by
  obtain ⟨h1, h2, h3, h4, h5, h6, h7⟩ := h
  have ha : s.vm.Alike U.vm := by rw [hv]; exact Vm.Alike.refl _
  exact ⟨va_K.moved ha h1, fun q hq => (h2 q hq).same rfl hv, fun q hq => (h3 q hq).same rfl hv, fun q hq => (h4 q hq).same rfl hv, fun q hq => (h5 q hq).same rfl hv, fun q hq => (h6 q hq).moved ha, h7.same hv⟩
/-! locals, by place -/
def LR (w : Wd) (ls : Array Slot) (nL : Nat) (L : List (Option Value)) : Prop := ls.size = nL ∧ lv_wf ls ∧ ∀ (i : Nat) (v : Value), L[i]? = some (some v) → ls[i]? = some (.val (cv w v))
def lrl (w : Wd) (L : List (Option Value)) : List (Nat × Value) := (List.range L.length).filterMap (fun i => (L[i]?.join).map (fun v => (i, cv w v)))
theorem lrl_mem {w : Wd} {L : List (Option Value)} {q : Nat × Value} : q ∈ lrl w L ↔ ∃ v, L[q.1]? = some (some v) ∧ q.2 = cv w v := by
  unfold lrl
  rw [List.mem_filterMap]
  constructor
  · rintro ⟨i, -, h⟩
    cases hi : L[i]? with
    | none => simp [hi] at h
    | some o =>
      cases o with
      | none => simp [hi] at h
      | some v =>
        simp [hi] at h
        subst h
        exact ⟨v, hi, rfl⟩
  · rintro ⟨v, h1, h2⟩
    refine ⟨q.1, List.mem_range.mpr (List.getElem?_eq_some_iff.mp h1).1, ?_⟩
    simp [h1, ← h2]
theorem LR.has {w : Wd} {ls : Array Slot} {nL : Nat} {L : List (Option Value)} (h : LR w ls nL L) : lv_has ls nL (lrl w L) := ⟨h.1, h.2.1, fun q hq => by
  obtain ⟨v, h1, h2⟩ := lrl_mem.mp hq
  rw [h2]
  exact h.2.2 q.1 v h1⟩
theorem LR.of {w : Wd} {ls : Array Slot} {nL : Nat} {L : List (Option Value)} {l : List (Nat × Value)} (h : lv_has ls nL l) (hm : ∀ (i : Nat) (v : Value), L[i]? = some (some v) → (i, cv w v) ∈ l) : LR w ls nL L := ⟨h.1, h.2.1, fun i v hv => h.2.2 _ (hm i v hv)⟩
/-- no long stands in the slot before -/
def okst (L : List (Option Value)) (i : Nat) : Bool := match i with
  | 0 => true
  | i + 1 => match L[i]? with
    | some (some v) => v.category == 1
    | _ => true
theorem okst_spec {L : List (Option Value)} {i j : Nat} {v : Value} (h : okst L i = true) (hj : j + 1 = i) (hv : L[j]? = some (some v)) : ¬ v.category = 2 := by
  subst hj
  simp [okst, hv] at h
  omega
theorem LR.st1 {w : Wd} {ls : Array Slot} {nL i : Nat} {L L' : List (Option Value)} {v : Value} (h : lv_has ls nL ((i, cv w v) :: (lrl w L).filter (fun q => !(q.1 == i) && !(q.1 + 1 == i && q.2.category == 2)))) (ho : okst L i = true) (hL : L.set i (some v) = L') : LR w ls nL L' := by
  refine LR.of h fun j u hu => ?_
  rw [← hL] at hu
  by_cases hji : j = i
  · subst hji
    rw [List.getElem?_set_self (by
      have := (List.getElem?_eq_some_iff.mp hu).1
      simpa using this)] at hu
    cases hu
    exact List.mem_cons_self
  · rw [List.getElem?_set_ne (fun q => hji q.symm)] at hu
    refine List.mem_cons_of_mem _ (List.mem_filter.mpr ⟨lrl_mem.mpr ⟨u, hu, rfl⟩, ?_⟩)
    simp only [Bool.and_eq_true, Bool.not_eq_true', beq_eq_false_iff_ne, ne_eq, Bool.and_eq_false_iff]
    refine ⟨hji, ?_⟩
    by_cases h1 : j + 1 = i
    · right
      rw [cv_cat]
      exact okst_spec ho h1 hu
    · exact Or.inl h1
theorem LR.st2 {w : Wd} {ls : Array Slot} {nL i : Nat} {L L' : List (Option Value)} {v : Value} (h : lv_has ls nL ((i, cv w v) :: (lrl w L).filter (fun q => !(q.1 == i) && (!(q.1 == i + 1) && !(q.1 + 1 == i && q.2.category == 2))))) (ho : okst L i = true) (hL : (L.set i (some v)).set (i + 1) none = L') : LR w ls nL L' := by
  refine LR.of h fun j u hu => ?_
  rw [← hL] at hu
  have hj2 : j ≠ i + 1 := by
    intro e
    subst e
    by_cases hl : i + 1 < (L.set i (some v)).length
    · rw [List.getElem?_set_self hl] at hu
      cases hu
    · rw [List.getElem?_eq_none (by simpa using hl)] at hu
      cases hu
  rw [List.getElem?_set_ne (fun q => hj2 q.symm)] at hu
  by_cases hji : j = i
  · subst hji
    rw [List.getElem?_set_self (by
      have := (List.getElem?_eq_some_iff.mp hu).1
      simpa using this)] at hu
    cases hu
    exact List.mem_cons_self
  · rw [List.getElem?_set_ne (fun q => hji q.symm)] at hu
    refine List.mem_cons_of_mem _ (List.mem_filter.mpr ⟨lrl_mem.mpr ⟨u, hu, rfl⟩, ?_⟩)
    simp only [Bool.and_eq_true, Bool.not_eq_true', beq_eq_false_iff_ne, ne_eq, Bool.and_eq_false_iff]
    refine ⟨hji, hj2, ?_⟩
    by_cases h1 : j + 1 = i
    · right
      rw [cv_cat]
      exact okst_spec ho h1 hu
    · exact Or.inl h1
/-- fewer locals -/
theorem LR.sub {w : Wd} {ls : Array Slot} {nL : Nat} {L L' : List (Option Value)} (h : LR w ls nL L) (hs : ∀ (i : Nat) (v : Value), L'[i]? = some (some v) → L[i]? = some (some v)) : LR w ls nL L' := ⟨h.1, h.2.1, fun i v hv => h.2.2 i v (hs i v hv)⟩
def entL : List Value → List (Option Value)
  | [] => []
  | v :: vs => if v.category = 2 then some v :: none :: entL vs else some v :: entL vs
theorem entL_mem (w : Wd) : ∀ (vs : List Value) (k i : Nat) (v : Value), (entL vs)[i]? = some (some v) → (k + i, cv w v) ∈ lv_args k (vs.map (cv w)) := by
  intro vs
  induction vs with
  | nil => intro k i v h; simp [entL] at h
  | cons x xs ih =>
    intro k i v h
    simp only [List.map_cons, lv_args, cv_cat]
    unfold entL at h
    by_cases hc : x.category = 2
    · rw [if_pos hc] at h
      rw [if_pos hc]
      match i, h with
      | 0, h => simp at h; subst h; exact List.mem_cons_self
      | 1, h => simp at h
      | i + 2, h =>
        have := ih (k + 2) i v (by simpa using h)
        rw [show k + 2 + i = k + (i + 2) by omega] at this
        exact List.mem_cons_of_mem _ this
    · rw [if_neg hc] at h
      rw [if_neg hc]
      match i, h with
      | 0, h => simp at h; subst h; exact List.mem_cons_self
      | i + 1, h =>
        have := ih (k + 1) i v (by simpa using h)
        rw [show k + 1 + i = k + (i + 1) by omega] at this
        exact List.mem_cons_of_mem _ this
theorem entL_len (w : Wd) : ∀ (vs : List Value), (lg_sl (vs.map (cv w))).length = (entL vs).length := by
  intro vs
  induction vs with
  | nil => rfl
  | cons x xs ih =>
    unfold entL
    by_cases hc : x.category = 2
    · simp [lg_sl, cv_cat, hc] at ih ⊢
      first | exact ih | omega | simpa using ih
    · simp [lg_sl, cv_cat, hc] at ih ⊢
      first | exact ih | omega | simpa using ih
/-! the judgement -/
abbrev Cx : Type := Program × Launch × Env × Room × State × MethodId × Array Value × List Frame × Method × Code
/-- the end of a method that returns -/
def qc (w : Wd) (Q : Option Value → Sh → Mi → Ml → Prop) : Array Value → State → Outcome → State → Prop := fun _ _ o t => ∃ (r : Option Value) (S : Sh) (I : Mi) (J : Ml), o = .returned (r.map (cv w)) ∧ Rep w t.heap S I J ∧ Q r S I J
def Zr (w : Wd) (κ : Cx) (Q : Option Value → Sh → Mi → Ml → Prop) : State → Prop := MQ κ.2.2.2.2.2.2.2.1 (qc w Q) κ.2.2.2.2.2.2.1 κ.2.2.2.2.1 κ.2.2.2.1.cells κ.2.2.2.1.slots (fun q => wz w ≤ q)
def XX (w : Wd) (κ : Cx) (Z : State → Prop) (cs sl pc : Nat) (L : List (Option Value)) (sk : List Value) (S : Sh) (I : Mi) (J : Ml) : Prop :=
  ∀ (hp : Heap) (locs : List Loc) (ls : Array Slot), Rep w hp S I J → (∀ q ∈ locs, wz w ≤ q.base) → LR w ls κ.2.2.2.2.2.2.2.2.2.maxLocals L →
    W κ.1 κ.2.1 κ.2.2.1 κ.2.2.2.1 κ.2.2.2.2.1 κ.2.2.2.2.2.1 κ.2.2.2.2.2.2.1 κ.2.2.2.2.2.2.2.1 κ.2.2.2.2.2.2.2.2.1 κ.2.2.2.2.2.2.2.2.2 hp locs cs sl Z (F0 κ.2.2.2.2.2.1 pc ls (sk.map (cv w)))
abbrev rmx (d mc ms : Nat) : Room := { frames := d, cells := mc, slots := ms, locals := 41 * d }
/-- what a walk stands on -/
def Cok (w : Wd) (y : MethodName) (cc : ByteArray) (nL : Nat) (rt : Option FieldType) (d mc ms : Nat) (κ : Cx) : Prop :=
  κ.1.tables.exec = Jvm.exec ∧ κ.2.2.2.2.2.2.2.2.2.code = cc ∧ κ.2.2.2.2.2.2.2.2.2.maxLocals = nL ∧ κ.2.2.2.2.1.vm.findClass y.cls = some κ.2.2.2.2.2.1.cls ∧ (∀ x ∈ lw_all, x.before κ.2.2.2.2.2.2.1 κ.2.2.2.2.1 = true) ∧ Kn w κ.2.2.2.2.1 ∧
  κ.2.2.2.2.2.2.2.2.1.sig.returnType = rt ∧ κ.2.2.2.2.2.2.2.2.1.locks = false ∧ κ.2.2.2.1 = rmx d mc ms ∧ κ.2.2.2.2.2.2.2.2.1.name = y.name
/-- a contract: from the arguments av and the abstract heap -/
def Ct (w : Wd) (l : Launch) (y : MethodName) (cc : ByteArray) (nL : Nat) (rt : Option FieldType) (d mc ms : Nat) (av : List Value) (S : Sh) (I : Mi) (J : Ml) (Q : Option Value → Sh → Mi → Ml → Prop) : Prop :=
  Met l y (ws_ y cc nL rt) (rmx d mc ms) (fun v U => v = (av.map (cv w)).toArray ∧ Rep w U.heap S I J ∧ Kn w U) (qc w Q) mc ms (fun q => wz w ≤ q)
theorem Ct.of {w : Wd} {l : Launch} {y : MethodName} {cc : ByteArray} {nL : Nat} {rt : Option FieldType} {d mc ms : Nat} {av : List Value} {S : Sh} {I : Mi} {J : Ml} {Q : Option Value → Sh → Mi → Ml → Prop} (L : List (Option Value)) (hL : entL av ++ List.replicate (nL - (entL av).length) none = L) (hl : (entL av).length ≤ nL) (hy : plainName y.cls = true)
    (body : ∀ κ : Cx, κ.2.1 = l → Cok w y cc nL rt d mc ms κ → XX w κ (Zr w κ Q) 0 0 0 L [] S I J) : Ct w l y cc nL rt d mc ms av S I J Q := by
  unfold Ct
  refine Met.ofW (cc := cc) (maxL := nL) (ret := rt) hy rfl ?_
  intro p e s m args below meth c s₁ B hml hv
  obtain ⟨rfl, hR, hK⟩ := hv
  have hts := atoms_spec (ws := ws_ y cc nL rt) B.pre
  have hts : ∀ x ∈ lw_all, x.before _ s = true := fun x h => hts x (List.mem_cons_of_mem _ h)
  have hle := lv_entry (av.map (cv w)) (n := nL) (by rw [entL_len]; exact hl)
  rw [lg_entry_eq]
  refine body (p, l, e, (headSpec (ws_ y cc nL rt) (rmx d mc ms)).room, s, m, (av.map (cv w)).toArray, below, meth, c) rfl ⟨B.exec, B.bytes, hml, findClass_of_methodNamed B.named, hts, hK, B.returns, B.notSynchronized, rfl, (name_of_methodNamed B.named B.method).1⟩ s.heap [] _ hR (fun q h => by cases h) ?_
  show LR w _ c.maxLocals L
  rw [hml]
  refine LR.of hle fun i v hi => ?_
  rw [← hL] at hi
  have := entL_mem w av 0 i v (by
    by_cases hlt : i < (entL av).length
    · rw [List.getElem?_append_left hlt] at hi
      exact hi
    · rw [List.getElem?_append_right (by omega)] at hi
      have := List.mem_of_getElem? hi
      have := (List.mem_replicate.mp this).2
      cases this)
  simpa using this
