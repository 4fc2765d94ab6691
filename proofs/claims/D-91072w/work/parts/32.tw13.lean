/-! the twin: losses -/
def wY (f : Nat → Nat) (u dw : Nat) : Nat → Nat
  | 0 => 0
  | i + 1 => if dw ≤ u + i ∧ u + i ≤ 10 + dw then max (wY f u dw i) (f (u + i - dw)) else wY f u dw i
def mn (g : Nat → Nat) : Nat → Nat × Nat
  | 0 => (1073741824, 0)
  | k + 1 => if g k < (mn g k).1 then (g k, k) else mn g k
def loG (fe : Nat → Nat → Nat → Nat) (F : Nat → Nat → Nat) (up dw e h u : Nat) : Nat → Nat := fun r => r * fe e h u + wY (F (h - r)) u dw (up + dw + 1)
def Lo (fe : Nat → Nat → Nat → Nat) (up dw sm : Nat) : Nat → Nat → Nat → Nat
  | 0, h, u => if u < h then 100 * (h - u) else sm * (u - h)
  | e + 1, h, u => (mn (loG fe (Lo fe up dw sm e) up dw (e + 1) h u) (h + 1)).1
def gaN (fe : Nat → Nat → Nat → Nat) (up dw sm h u : Nat) : Nat → Nat
  | 0 => 0
  | e + 1 => (mn (loG fe (Lo fe up dw sm e) up dw (e + 1) h u) (h + 1)).2
theorem wY_le {f : Nat → Nat} {u dw b : Nat} (hf : ∀ x, x ≤ 10 → f x ≤ b) : ∀ i, wY f u dw i ≤ b
  | 0 => Nat.zero_le _
  | i + 1 => by
    unfold wY
    split
    · exact Nat.max_le.mpr ⟨wY_le hf i, hf _ (by omega)⟩
    · exact wY_le hf i
theorem mn_le {g : Nat → Nat} (h0 : g 0 < 1073741824) : ∀ k, (mn g (k + 1)).1 ≤ g 0
  | 0 => by simp [mn, h0]
  | k + 1 => by
    have := mn_le h0 k
    rw [mn]
    split
    · rename_i h; exact Nat.le_of_lt (Nat.lt_of_lt_of_le h this)
    · exact this
theorem Lo_le {fe : Nat → Nat → Nat → Nat} {up dw sm : Nat} (hs : sm ≤ 1000) : ∀ (e h u : Nat), h ≤ 10 → u ≤ 10 → Lo fe up dw sm e h u ≤ 10000
  | 0, h, u, h1, h2 => by
    unfold Lo
    split
    · omega
    · have : sm * (u - h) ≤ 1000 * 10 := Nat.mul_le_mul hs (by omega)
      omega
  | e + 1, h, u, h1, h2 => by
    unfold Lo
    have h3 : wY (Lo fe up dw sm e h) u dw (up + dw + 1) ≤ 10000 := wY_le (fun x hx => Lo_le hs e h x h1 hx) _
    have h4 : loG fe (Lo fe up dw sm e) up dw (e + 1) h u 0 ≤ 10000 := by unfold loG; simpa using h3
    exact Nat.le_trans (mn_le (by omega) h) h4
theorem tol_ok (L : List Rul) (kd : Int32) (σ : Nat → Int32) : tol L kd σ = nI (nt (tol L kd σ)) ∧ nt (tol L kd σ) ≤ 100 := by
  have hc : ∀ v, ∃ k, k ≤ 100 ∧ clip v = nI k := by
    intro v
    unfold clip
    split
    · exact ⟨0, by decide, rfl⟩
    · split
      · exact ⟨100, by decide, rfl⟩
      · rename_i h1 h2
        obtain ⟨k, hk, rfl⟩ := nI_of h1
        exact ⟨k, Nat.not_lt.mp (fun q => h2 (nI_lt q hk)), rfl⟩
  have hf : ∀ (L : List Rul) (r : Int32), (r = -1 ∨ ∃ k, k ≤ 100 ∧ r = nI k) → (L.foldl (fndS kd σ) r = -1 ∨ ∃ k, k ≤ 100 ∧ L.foldl (fndS kd σ) r = nI k) := by
    intro L
    induction L with
    | nil => intro r h; exact h
    | cons q L ih =>
      intro r h
      rw [List.foldl_cons]
      apply ih
      unfold fndS
      split
      · exact Or.inr (hc _)
      · exact h
  have : ∃ k, k ≤ 100 ∧ tol L kd σ = nI k := by
    unfold tol
    split
    · exact ⟨0, by decide, rfl⟩
    · rename_i h
      exact (hf L (-1) (Or.inl rfl)).resolve_left h
  obtain ⟨k, hk, e⟩ := this
  exact nOk_of e hk (by decide)
/-- the state of the rules, for losses -/
def stL (I : Mi) (t e h u : Nat) : Nat → Int32 := fun k => match k with
  | 0 => nI e
  | 1 => nI h
  | 2 => nI u
  | 3 => nI (peopN I t (pn I))
  | _ => I 473 16
def feI (I : Mi) (t e h u : Nat) : Nat := nt (tol (rulesOf I t) (nI 0) (stL I t e h u))
abbrev hd0 (I : Mi) (t : Nat) : Nat := heldN I t (rn I t)
abbrev us0 (I : Mi) (t : Nat) : Nat := usedN I (pn I) t (rn I t)
/-- what losses leaves -/
def lsq (A B : Mi) : Prop := ∀ b i, b ≠ 507 → b ≠ 508 → b ≠ 509 → ¬ (b = 473 ∧ ((46 ≤ i ∧ i ≤ 59) ∨ i = 62)) → A b i = B b i
theorem lsq.g {A B : Mi} (h : lsq A B) : gq A B := by
  intro b i q
  refine h b i ?_ ?_ ?_ ?_
  · intro e; subst e; simp [gb] at q
  · intro e; subst e; simp [gb] at q
  · intro e; subst e; simp [gb] at q
  · rintro ⟨e, h1⟩
    subst e
    have : gb 473 i = true := by
      rcases h1 with ⟨h1, h2⟩ | rfl
      · simp [gb, Nat.ble_eq, h1, h2]
      · rfl
    rw [this] at q
    cases q
theorem lsq.row {A B : Mi} (h : lsq A B) {b : Nat} (h1 : b ≠ 507) (h2 : b ≠ 508) (h3 : b ≠ 509) (h4 : b ≠ 473) : A b = B b := funext fun i => h b i h1 h2 h3 (fun q => h4 q.1)
def IvM (I : Mi) (t : Nat) (M : Mi) (lf gf : Nat → Nat) (gv : Nat) : Prop := lsq M I ∧ M 473 57 = nI (peopN I t (pn I)) ∧ (∀ j, j < 121 → M 508 j = nI (lf j)) ∧ (∀ j, j < 121 → M 509 j = nI (gf j)) ∧ M 473 62 = nI gv
theorem IvM.l {I : Mi} {t : Nat} {M : Mi} {lf gf : Nat → Nat} {gv : Nat} (h : IvM I t M lf gf gv) {j v : Nat} : IvM I t (sto M 508 j (nI v)) (va_up lf j v) gf gv := by
  obtain ⟨h1, h2, h3, h4, h5⟩ := h
  refine ⟨fun b i q1 q2 q3 q4 => by rw [sto_n _ _ _ q2]; exact h1 b i q1 q2 q3 q4, by rw [sto_n _ _ _ (by decide)]; exact h2, fun k hk => ?_, fun k hk => by rw [sto_n _ _ _ (by decide)]; exact h4 k hk, by rw [sto_n _ _ _ (by decide)]; exact h5⟩
  rw [sto_at]
  by_cases hkj : k = j
  · subst hkj; simp [va_up]
  · simp [va_up, hkj, h3 k hk]
theorem IvM.k {I : Mi} {t : Nat} {M : Mi} {lf gf : Nat → Nat} {gv : Nat} (h : IvM I t M lf gf gv) {j v : Nat} : IvM I t (sto M 509 j (nI v)) lf (va_up gf j v) gv := by
  obtain ⟨h1, h2, h3, h4, h5⟩ := h
  refine ⟨fun b i q1 q2 q3 q4 => by rw [sto_n _ _ _ q3]; exact h1 b i q1 q2 q3 q4, by rw [sto_n _ _ _ (by decide)]; exact h2, fun k hk => by rw [sto_n _ _ _ (by decide)]; exact h3 k hk, fun k hk => ?_, by rw [sto_n _ _ _ (by decide)]; exact h5⟩
  rw [sto_at]
  by_cases hkj : k = j
  · subst hkj; simp [va_up]
  · simp [va_up, hkj, h4 k hk]
theorem IvM.g {I : Mi} {t : Nat} {M : Mi} {lf gf : Nat → Nat} {gv : Nat} (h : IvM I t M lf gf gv) {v : Nat} : IvM I t (sto M 473 62 (nI v)) lf gf v := by
  obtain ⟨h1, h2, h3, h4, h5⟩ := h
  refine ⟨fun b i q1 q2 q3 q4 => ?_, by rw [sto_kn _ _ _ _ (by decide)]; exact h2, fun k hk => by rw [sto_n _ _ _ (by decide)]; exact h3 k hk, fun k hk => by rw [sto_n _ _ _ (by decide)]; exact h4 k hk, sto_ss _ _ _ _⟩
  rw [sto_at, if_neg (fun q => q4 ⟨q.1, Or.inr q.2⟩)]
  exact h1 b i q1 q2 q3 q4
theorem IvM.s {I : Mi} {t : Nat} {M : Mi} {lf gf : Nat → Nat} {gv : Nat} (h : IvM I t M lf gf gv) {i : Nat} (hi : 46 ≤ i ∧ i ≤ 56) (v : Int32) : IvM I t (sto M 473 i v) lf gf gv := by
  obtain ⟨h1, h2, h3, h4, h5⟩ := h
  refine ⟨fun b j q1 q2 q3 q4 => ?_, by rw [sto_kn _ _ _ _ (by omega)]; exact h2, fun k hk => by rw [sto_n _ _ _ (by decide)]; exact h3 k hk, fun k hk => by rw [sto_n _ _ _ (by decide)]; exact h4 k hk, by rw [sto_kn _ _ _ _ (by omega)]; exact h5⟩
  rw [sto_at, if_neg (fun q => q4 ⟨q.1, Or.inl (by omega)⟩)]
  exact h1 b j q1 q2 q3 q4
theorem IvM.td {I : Mi} {t : Nat} {M M' : Mi} {lf gf : Nat → Nat} {gv : Nat} (h : IvM I t M lf gf gv) (hq : tdq M' M) : IvM I t M' lf gf gv := by
  obtain ⟨h1, h2, h3, h4, h5⟩ := h
  refine ⟨fun b j q1 q2 q3 q4 => ?_, by rw [hq 473 57 (by decide) (by omega)]; exact h2, fun k hk => by rw [hq 508 k (by decide) (by omega)]; exact h3 k hk, fun k hk => by rw [hq 509 k (by decide) (by omega)]; exact h4 k hk, by rw [hq 473 62 (by decide) (by omega)]; exact h5⟩
  rw [hq b j q1 (by omega)]
  exact h1 b j q1 q2 q3 q4
theorem TxOk_q {A B : Mi} (h1 : A 504 = B 504) (h2 : A 505 = B 505) (t : Nat) : (TxOk A t ↔ TxOk B t) ∧ rulesOf A t = rulesOf B t := by
  have e : txt A t = txt B t := by unfold txt; rw [h1, h2]
  have e2 : rulesOf A t = rulesOf B t := by unfold rulesOf; rw [e, h2]
  refine ⟨?_, e2⟩
  unfold TxOk
  rw [e, e2, h1, h2]
theorem sub_lt {a b c : Nat} (ha : a < 1000) (hb : b < 1000) (hc : c < 1000) : nI b < nI a - nI c ↔ b + c < a := by
  rw [Int32.lt_iff_toInt_lt, pk_sub_toInt (by omega) (by omega), nI_toInt (by omega)]
  omega
theorem in_sub {a c : Nat} (ha : a < 1000) (hc : c < 1000) : inB (nI a - nI c) (nI 0) (nI 10) = true ↔ c ≤ a ∧ a ≤ 10 + c := by
  rw [inB_iff, Int32.le_iff_toInt_le, Int32.le_iff_toInt_le, pk_sub_toInt (by omega) (by omega), nI_toInt (by omega), nI_toInt (by omega)]
  omega
