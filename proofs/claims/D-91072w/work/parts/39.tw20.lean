/-! lists of people in rooms, at least: plain -/
abbrev FARn : Nat := 1073741824
def ldB (P : Nat → Bool) (D w : Nat → Nat) (s : Nat) : Nat → Nat
  | 0 => FARn
  | y + 1 => if P y = true ∧ nd y s = 0 ∧ ¬ D (nd s y) = FARn then (if D (nd s y) + w y < ldB P D w s y then D (nd s y) + w y else ldB P D w s y) else ldB P D w s y
def LD (P : Nat → Nat → Bool) (W : Nat → Nat → Nat) (n : Nat) : Nat → Nat → Nat
  | 0, s => if s = 0 then 0 else FARn
  | i + 1, s => ldB (P (n - (i + 1))) (LD P W n i) (W (n - (i + 1))) s 1024
theorem ldB_no {P : Nat → Bool} {D w : Nat → Nat} {s y z : Nat} (hyz : y ≤ z) (h : ∀ x, y ≤ x → x < z → P x = false) : ldB P D w s z = ldB P D w s y := by
  induction z with
  | zero => rw [Nat.le_zero.mp hyz]
  | succ z ih =>
    rcases Nat.lt_or_ge z y with q | q
    · rw [show y = z + 1 by omega]
    · rw [ldB, if_neg (by rw [h z q (by omega)]; simp)]
      exact ih q (fun x h1 h2 => h x h1 (by omega))
theorem cnt_next {P : Nat → Bool} {y N : Nat} (h : cnt P y < cnt P N) : ∃ x, y ≤ x ∧ x < N ∧ P x = true ∧ cnt P x = cnt P y ∧ ∀ z, y ≤ z → z < x → P z = false := by
  induction N with
  | zero => simp [cnt] at h
  | succ N ih =>
    by_cases h1 : cnt P y < cnt P N
    · obtain ⟨x, a, b, c⟩ := ih h1
      exact ⟨x, a, by omega, c⟩
    · have hP : P N = true := by
        cases hP : P N with
        | true => rfl
        | false => rw [cnt_f hP] at h; exact absurd h h1
      rw [cnt_t hP] at h
      have hyN : y ≤ N := by
        rcases Nat.lt_or_ge N y with q | q
        · have := cnt_mono P (show N + 1 ≤ y by omega)
          rw [cnt_t hP] at this
          omega
        · exact q
      have hm := cnt_mono P hyN
      refine ⟨N, hyN, by omega, hP, by omega, fun z q1 q2 => ?_⟩
      cases hz : P z with
      | false => rfl
      | true =>
        have h2 := cnt_mono P (show z + 1 ≤ N by omega)
        rw [cnt_t hz] at h2
        have h3 := cnt_mono P q1
        omega
theorem cnt_done {P : Nat → Bool} {y N : Nat} (hy : y ≤ N) (h : cnt P y = cnt P N) : ∀ z, y ≤ z → z < N → P z = false := by
  intro z q1 q2
  cases hz : P z with
  | false => rfl
  | true =>
    have h2 := cnt_mono P (show z + 1 ≤ N by omega)
    rw [cnt_t hz] at h2
    have h3 := cnt_mono P q1
    omega
theorem ldB_att {P : Nat → Bool} {D w : Nat → Nat} {s : Nat} : ∀ {N : Nat}, ¬ ldB P D w s N = FARn → ∃ y, y < N ∧ P y = true ∧ nd y s = 0 ∧ ¬ D (nd s y) = FARn ∧ D (nd s y) + w y = ldB P D w s N
  | 0, h => absurd rfl h
  | N + 1, h => by
    rw [ldB] at h ⊢
    split at h
    · rename_i hc
      rw [if_pos hc]
      split at h
      · rename_i h2
        rw [if_pos h2]
        exact ⟨N, by omega, hc.1, hc.2.1, hc.2.2, rfl⟩
      · rename_i h2
        rw [if_neg h2]
        obtain ⟨y, a, b⟩ := ldB_att h
        exact ⟨y, by omega, b⟩
    · rename_i hc
      rw [if_neg hc]
      obtain ⟨y, a, b⟩ := ldB_att h
      exact ⟨y, by omega, b⟩
theorem ldB_le {P : Nat → Bool} {D w : Nat → Nat} {s : Nat} : ∀ {N y : Nat}, y < N → P y = true → nd y s = 0 → ¬ D (nd s y) = FARn → ldB P D w s N ≤ D (nd s y) + w y
  | 0, y, hy, _, _, _ => by omega
  | N + 1, y, hy, h1, h2, h3 => by
    rw [ldB]
    by_cases e : y = N
    · subst e
      rw [if_pos ⟨h1, h2, h3⟩]
      split <;> omega
    · have ih := ldB_le (w := w) (N := N) (y := y) (by omega) h1 h2 h3
      split
      · split <;> omega
      · exact ih
theorem ldB_cap (P : Nat → Bool) (D w : Nat → Nat) (s : Nat) : ∀ N, ldB P D w s N ≤ FARn
  | 0 => Nat.le_refl _
  | N + 1 => by
    have := ldB_cap P D w s N
    rw [ldB]
    split
    · split <;> omega
    · exact this
theorem LD_b {P : Nat → Nat → Bool} {W : Nat → Nat → Nat} {n B : Nat} (hw : ∀ r y, r < n → P r y = true → W r y ≤ B) : ∀ (i s : Nat), i ≤ n → LD P W n i s = FARn ∨ LD P W n i s ≤ B * i
  | 0, s, _ => by unfold LD; split <;> simp
  | i + 1, s, hi => by
    unfold LD
    by_cases h : ldB (P (n - (i + 1))) (LD P W n i) (W (n - (i + 1))) s 1024 = FARn
    · exact Or.inl h
    · right
      obtain ⟨y, h1, h2, h3, h4, h5⟩ := ldB_att h
      rw [← h5]
      have h6 := (LD_b hw i (nd s y) (by omega)).resolve_left h4
      have h7 := hw (n - (i + 1)) y (by omega) h2
      rw [Nat.mul_succ]
      omega
def wN (I : Mi) (t : Nat) (how : Int32) (r y : Nat) : Nat := nt (wgt I (pn I) t r y how)
def prOk (I : Mi) (t : Nat) : Prop := ∀ r, r < rn I t → ∃ p, (1 ≤ p ∧ p ≤ 1000) ∧ I 488 (10 * t + r) = nI p
theorem wN_ok {I : Mi} {t : Nat} (hp : pn I ≤ 10) (hpr : prOk I t) {r : Nat} (hr : r < rn I t) (y : Nat) (how : Int32) : wgt I (pn I) t r y how = nI (wN I t how r y) ∧ wN I t how r y ≤ 400000 := by
  obtain ⟨p, hp1, e⟩ := hpr r hr
  have hc := cnt_le (mvP I t (nI r) y) (pn I)
  have key : ∃ k, k ≤ 400000 ∧ wgt I (pn I) t r y how = nI k := by
    unfold wgt
    split
    · exact ⟨0, by decide, rfl⟩
    · split
      · exact ⟨32 * p + cnt (mvP I t (nI r) y) (pn I), by omega, by rw [e, pk_mul, nI_add]⟩
      · exact ⟨32768 * cnt (mvP I t (nI r) y) (pn I) + p, by omega, by rw [e, show (32768 : Int32) = nI 32768 from rfl, pk_mul, nI_add]⟩
  obtain ⟨k, hk, e2⟩ := key
  exact nOk_of e2 hk (by decide)
abbrev LDI (I : Mi) (t : Nat) (how : Int32) : Nat → Nat → Nat := LD (mP I t) (wN I t how) (rn I t)
theorem LDI_b {I : Mi} {t : Nat} (hp : pn I ≤ 10) (hpr : prOk I t) (how : Int32) {i : Nat} (hi : i ≤ rn I t) (s : Nat) : LDI I t how i s = FARn ∨ LDI I t how i s ≤ 400000 * i := LD_b (fun r y hr _ => (wN_ok hp hpr hr y how).2) i s hi
def pkP (I : Mi) (t : Nat) (how : Int32) (r s y : Nat) : Bool := mP I t r y && decide (nd y s = 0) && !decide (LDI I t how (rn I t - (r + 1)) (nd s y) = FARn) && decide (LDI I t how (rn I t - (r + 1)) (nd s y) + wN I t how r y = LDI I t how (rn I t - r) s)
def pkN (I : Mi) (t : Nat) (how : Int32) (r s : Nat) : Nat := runE (fun y => !pkP I t how r s y) 1024 0
def stN (I : Mi) (t : Nat) (how : Int32) : Nat → Nat
  | 0 => al I t
  | r + 1 => nd (stN I t how r) (pkN I t how r (stN I t how r))
def fqN (I : Mi) (t : Nat) (how : Int32) : Nat → Nat → Int32
  | 0, _ => -1
  | r + 1, p => if (pkN I t how r (stN I t how r)).testBit p then nI r else fqN I t how r p
def smN (f : Nat → Nat) : Nat → Nat
  | 0 => 0
  | k + 1 => smN f k + f k
def csT (I : Mi) (t : Nat) (how : Int32) : Nat → Int32 := smI (fun r => if pkN I t how r (stN I t how r) = 0 then nI 0 else I 488 (10 * t + r))
def mvT (I : Mi) (t : Nat) (how : Int32) : Nat → Nat := smN (fun r => cnt (mvP I t (nI r) (pkN I t how r (stN I t how r))) (pn I))
theorem runE_ex {P : Nat → Bool} {N : Nat} (h : ∃ y, y < N ∧ P y = false) : runE P N 0 < N ∧ P (runE P N 0) = false := by
  have key : ∀ (f q : Nat), (∃ y, q ≤ y ∧ y < q + f ∧ P y = false) → runE P f q < q + f ∧ P (runE P f q) = false := by
    intro f
    induction f with
    | zero => rintro q ⟨y, h1, h2, -⟩; omega
    | succ f ih =>
      rintro q ⟨y, h1, h2, h3⟩
      unfold runE
      cases hq : P q with
      | false => simp; exact hq
      | true =>
        simp only [if_true]
        have : ¬ y = q := fun e => by rw [e, hq] at h3; cases h3
        have := ih (q + 1) ⟨y, by omega, by omega, h3⟩
        exact ⟨by omega, this.2⟩
  obtain ⟨y, h1, h2⟩ := h
  have := key N 0 ⟨y, Nat.zero_le _, by omega, h2⟩
  simpa using this
theorem pk_ok {I : Mi} {t : Nat} {how : Int32} {r s : Nat} (hr : r < rn I t) (h : ¬ LDI I t how (rn I t - r) s = FARn) : pkN I t how r s < 1024 ∧ pkP I t how r s (pkN I t how r s) = true := by
  obtain ⟨i, hi⟩ : ∃ i, rn I t - r = i + 1 := ⟨rn I t - r - 1, by omega⟩
  have h2 := h
  rw [hi] at h2
  unfold LDI LD at h2
  obtain ⟨y, h1, g2, g3, g4, g5⟩ := ldB_att h2
  have er : rn I t - (i + 1) = r := by omega
  have ei : rn I t - (r + 1) = i := by omega
  rw [er] at g2 g5
  have := runE_ex (P := fun y => !pkP I t how r s y) (N := 1024) ⟨y, h1, by
    have : pkP I t how r s y = true := by
      unfold pkP
      rw [g2, ei, hi]
      simp only [g3, decide_true, Bool.true_and, Bool.and_eq_true, Bool.not_eq_true', decide_eq_false_iff_not, decide_eq_true_eq]
      exact ⟨g4, by unfold LDI; rw [g5]; unfold LD; rw [er]⟩
    rw [this]; rfl⟩
  exact ⟨this.1, by have h3 := this.2; unfold pkN; simpa using h3⟩
theorem pkP_D {I : Mi} {t : Nat} {how : Int32} {r s y : Nat} (h : pkP I t how r s y = true) : mP I t r y = true ∧ nd y s = 0 ∧ ¬ LDI I t how (rn I t - (r + 1)) (nd s y) = FARn ∧ LDI I t how (rn I t - (r + 1)) (nd s y) + wN I t how r y = LDI I t how (rn I t - r) s := by
  unfold pkP at h
  simp only [Bool.and_eq_true, Bool.not_eq_true', decide_eq_false_iff_not, decide_eq_true_eq] at h
  exact ⟨h.1.1.1, h.1.1.2, h.1.2, h.2⟩
theorem st_ok {I : Mi} {t : Nat} {how : Int32} (hp : pn I ≤ 10) (h : ¬ LDI I t how (rn I t) (al I t) = FARn) : ∀ r, r ≤ rn I t → stN I t how r < 1024 ∧ ¬ LDI I t how (rn I t - r) (stN I t how r) = FARn
  | 0, _ => ⟨al_lt I t hp, by rw [Nat.sub_zero]; exact h⟩
  | r + 1, hr => by
    have ih := st_ok hp h r (by omega)
    have hk := pk_ok (by omega) ih.2
    exact ⟨nd_lt (n := 10) ih.1, (pkP_D hk.2).2.2.1⟩
def chN (I : Mi) (t : Nat) (fr : Nat → Int32) : Nat := cnt (fun p => !decide (fr p = I 490 (10 * t + p))) (pn I)
def ntS (I : Mi) (t : Nat) (fr : Nat → Int32) : Nat → Mi
  | 0 => I
  | p + 1 => noteT (ntS I t fr p) t p (fr p)
def tkS (I : Mi) (t : Nat) (how : Int32) : Int32 × Mi :=
  if nn I + chN I t (fqN I t how (rn I t)) ≤ 500 then (csT I t how (rn I t), sto (ntS I t (fqN I t how (rn I t)) (pn I)) 473 37 (nI (mvT I t how (rn I t)))) else no1 I
def sp_settle (I : Mi) (t how : Int32) : Int32 × Mi :=
  if opB I t && inB how (nI 0) (nI 1) then (if LDI I (nt t) how (rn I (nt t)) (al I (nt t)) = FARn then no1 I else tkS I (nt t) how) else no1 I
