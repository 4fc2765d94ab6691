/-! who goes where: plain -/
theorem cnt_add {Q A B : Nat → Bool} (h : ∀ i, Q i = (A i || B i)) (hd : ∀ i, (A i && B i) = false) : ∀ n, cnt Q n = cnt A n + cnt B n
  | 0 => rfl
  | n + 1 => by
    have ih := cnt_add h hd n
    have h1 := h n
    have h2 := hd n
    cases hA : A n with
    | true =>
      cases hB : B n with
      | true => rw [hA, hB] at h2; cases h2
      | false => rw [cnt_t hA, cnt_f hB, cnt_t (by rw [h1, hA]; rfl), ih]; omega
    | false =>
      cases hB : B n with
      | true => rw [cnt_f hA, cnt_t hB, cnt_t (by rw [h1, hA, hB]; rfl), ih]; omega
      | false => rw [cnt_f hA, cnt_f hB, cnt_f (by rw [h1, hA, hB]; rfl), ih]
theorem cnt_c {P Q : Nat → Bool} : ∀ {n : Nat}, (∀ i, i < n → P i = Q i) → cnt P n = cnt Q n
  | 0, _ => rfl
  | n + 1, h => by
    show cnt P n + (if P n then 1 else 0) = cnt Q n + (if Q n then 1 else 0)
    rw [cnt_c (fun i hi => h i (by omega)), h n (by omega)]
section
variable {T : Mi} {t : Nat} {how : Int32}
abbrev pk (T : Mi) (t : Nat) (how : Int32) (r : Nat) : Nat := pkN T t how r (stN T t how r)
theorem pk_st (hp : pn T ≤ 10) (h : ¬ LDI T t how (rn T t) (al T t) = FARn) {r : Nat} (hr : r < rn T t) : pk T t how r < 1024 ∧ mP T t r (pk T t how r) = true ∧ nd (pk T t how r) (stN T t how r) = 0 := by
  have h1 := st_ok hp h r (by omega)
  have h2 := pk_ok hr h1.2
  have h3 := pkP_D h2.2
  exact ⟨h2.1, h3.1, h3.2.1⟩
theorem st_al : ∀ r, nd (stN T t how r) (al T t) = 0
  | 0 => sub_nd (fun i h => h)
  | r + 1 => nd_tr (nd_l _ _) (st_al r)
theorem st_end (hp : pn T ≤ 10) (h : ¬ LDI T t how (rn T t) (al T t) = FARn) : stN T t how (rn T t) = 0 := by
  have h1 := (st_ok hp h (rn T t) (Nat.le_refl _)).2
  rw [Nat.sub_self] at h1
  unfold LDI LD at h1
  by_cases e : stN T t how (rn T t) = 0
  · exact e
  · rw [if_neg e] at h1
    exact absurd rfl h1
/-- where one goes, and who is left -/
theorem fq_spec (hp : pn T ≤ 10) (hr10 : rn T t ≤ 10) (h : ¬ LDI T t how (rn T t) (al T t) = FARn) (p : Nat) : ∀ m, m ≤ rn T t → (stN T t how m).testBit p = ((al T t).testBit p && decide (fqN T t how m p = -1)) ∧ (fqN T t how m p = -1 ∨ ((al T t).testBit p = true ∧ ∃ r, r < m ∧ fqN T t how m p = nI r)) ∧ (∀ r, r < m → (fqN T t how m p = nI r ↔ (pk T t how r).testBit p = true))
  | 0, _ => ⟨by
      show (al T t).testBit p = ((al T t).testBit p && decide ((-1 : Int32) = -1))
      simp, Or.inl rfl, fun r hr => absurd hr (Nat.not_lt_zero _)⟩
  | m + 1, hm => by
    obtain ⟨h1, h2, h3⟩ := fq_spec hp hr10 h p m (by omega)
    obtain ⟨k1, k2, k3⟩ := pk_st hp h (show m < rn T t by omega)
    have hst : stN T t how (m + 1) = nd (stN T t how m) (pk T t how m) := rfl
    have hfq : fqN T t how (m + 1) p = if (pk T t how m).testBit p = true then nI m else fqN T t how m p := rfl
    rw [hst, nd_bit, h1, hfq]
    cases hb : (pk T t how m).testBit p with
    | true =>
      have hs := nd_sub k3 hb
      rw [h1] at hs
      obtain ⟨a1, a2⟩ := Bool.and_eq_true_iff.mp hs
      have a2 := of_decide_eq_true a2
      rw [if_pos rfl]
      refine ⟨?_, Or.inr ⟨a1, m, by omega, rfl⟩, fun r hr => ?_⟩
      · rw [decide_eq_false (nI_m1 (show m < 2 ^ 31 by omega))]
        simp
      · by_cases e : r = m
        · subst e
          exact ⟨fun _ => hb, fun _ => rfl⟩
        · constructor
          · intro q
            exact absurd ((nI_eq (by omega) (by omega)).mp q).symm e
          · intro q
            have := (h3 r (by omega)).mpr q
            rw [a2] at this
            exact absurd this.symm (nI_m1 (by omega))
    | false =>
      rw [if_neg (by decide)]
      refine ⟨by simp, h2.imp id (fun ⟨q1, r, q2, q3⟩ => ⟨q1, r, by omega, q3⟩), fun r hr => ?_⟩
      by_cases e : r = m
      · subst e
        rw [hb]
        refine ⟨fun q => ?_, fun q => by cases q⟩
        rcases h2 with z | ⟨-, r', z1, z2⟩
        · rw [z] at q
          exact absurd q.symm (nI_m1 (by omega))
        · rw [z2] at q
          have := (nI_eq (by omega) (by omega)).mp q
          omega
      · exact h3 r (by omega)
theorem mv_spec (hp : pn T ≤ 10) (hr10 : rn T t ≤ 10) (h : ¬ LDI T t how (rn T t) (al T t) = FARn) : ∀ m, m ≤ rn T t → mvT T t how m = cnt (fun p => !decide (fqN T t how m p = -1) && !decide (T 490 (10 * t + p) = -1) && !decide (fqN T t how m p = T 490 (10 * t + p))) (pn T)
  | 0, _ => by
    refine (cnt_z (fun i _ => ?_)).symm
    show (!decide ((-1 : Int32) = -1) && _ && _) = false
    simp
  | m + 1, hm => by
    have ih := mv_spec hp hr10 h m (by omega)
    have hstep : mvT T t how (m + 1) = mvT T t how m + cnt (mvP T t (nI m) (pk T t how m)) (pn T) := rfl
    rw [hstep, ih]
    symm
    refine cnt_add (fun p => ?_) (fun p => ?_) (pn T)
    · obtain ⟨h1, h2, h3⟩ := fq_spec hp hr10 h p m (by omega)
      obtain ⟨k1, k2, k3⟩ := pk_st hp h (show m < rn T t by omega)
      have hfq : fqN T t how (m + 1) p = if (pk T t how m).testBit p = true then nI m else fqN T t how m p := rfl
      show _ = (_ || ((pk T t how m).testBit p && _ && _))
      rw [hfq]
      cases hb : (pk T t how m).testBit p with
      | true =>
        have hs := nd_sub k3 hb
        rw [h1] at hs
        have a2 := of_decide_eq_true (Bool.and_eq_true_iff.mp hs).2
        rw [if_pos rfl, a2, decide_eq_false (nI_m1 (show m < 2 ^ 31 by omega))]
        simp [eq_comm]
      | false =>
        rw [if_neg (by decide)]
        simp
    · obtain ⟨h1, h2, h3⟩ := fq_spec hp hr10 h p m (by omega)
      obtain ⟨k1, k2, k3⟩ := pk_st hp h (show m < rn T t by omega)
      show (_ && ((pk T t how m).testBit p && _ && _)) = false
      cases hb : (pk T t how m).testBit p with
      | true =>
        have hs := nd_sub k3 hb
        rw [h1] at hs
        have a2 := of_decide_eq_true (Bool.and_eq_true_iff.mp hs).2
        simp [a2]
      | false => simp
/-- who is listed in a town that isn't over is there -/
def LtOk (T : Mi) : Prop := ∀ t p, t < tn T → ovB T t = false → p < pn T → ¬ T 490 (10 * t + p) = -1 → thB T p (nI t) = true
theorem al_bit {p : Nat} : (al T t).testBit p = (decide (p < pn T) && thB T p (nI t)) := by
  unfold al
  rw [msk_bit]
/-- the list behind notes -/
theorem ntS_list (fr : Nat → Int32) : ∀ p, (∀ i, ntS T t fr p 490 i = if 10 * t ≤ i ∧ i < 10 * t + p then fr (i - 10 * t) else T 490 i)
  | 0, i => by rw [if_neg (by omega)]; rfl
  | p + 1, i => by
    have ih := ntS_list fr p
    show noteT (ntS T t fr p) t p (fr p) 490 i = _
    unfold noteT
    by_cases e : i = 10 * t + p
    · subst e
      rw [if_pos (show 10 * t ≤ 10 * t + p ∧ 10 * t + p < 10 * t + (p + 1) by omega), show 10 * t + p - 10 * t = p by omega]
      split
      · rename_i h
        exact h
      · rw [noteS_list, if_pos rfl]
    · have h1 : (10 * t ≤ i ∧ i < 10 * t + (p + 1)) ↔ (10 * t ≤ i ∧ i < 10 * t + p) := by omega
      split
      · rw [ih i]
        simp only [h1]
      · rw [noteS_list, if_neg e, ih i]
        simp only [h1]
theorem ntS_row (fr : Nat → Int32) {a : Nat} (h : a ≠ 473 ∧ a ≠ 490 ∧ a ≠ 491 ∧ a ≠ 492 ∧ a ≠ 493) : ∀ p, ntS T t fr p a = T a
  | 0 => rfl
  | p + 1 => by
    show noteT (ntS T t fr p) t p (fr p) a = _
    unfold noteT
    split
    · exact ntS_row fr h p
    · rw [noteS_row _ _ _ _ h, ntS_row fr h p]
theorem ntS_473 (fr : Nat → Int32) {i : Nat} (h : i ≠ 26) : ∀ p, ntS T t fr p 473 i = T 473 i
  | 0 => rfl
  | p + 1 => by
    show noteT (ntS T t fr p) t p (fr p) 473 i = _
    unfold noteT
    split
    · exact ntS_473 fr h p
    · rw [noteS_473 _ _ _ _ h, ntS_473 fr h p]
theorem ntS_cnt (fr : Nat → Int32) {k : Nat} (hk : T 473 26 = nI k) : ∀ p, ntS T t fr p 473 26 = nI (k + cnt (fun p => !decide (fr p = T 490 (10 * t + p))) p)
  | 0 => hk
  | p + 1 => by
    have ih := ntS_cnt fr hk p
    have hl := ntS_list (T := T) (t := t) fr p (10 * t + p)
    rw [if_neg (by omega)] at hl
    show noteT (ntS T t fr p) t p (fr p) 473 26 = _
    unfold noteT
    rw [hl]
    by_cases e : T 490 (10 * t + p) = fr p
    · rw [if_pos e, cnt_f (by simp [e]), ih]
    · have e' : ¬ fr p = T 490 (10 * t + p) := fun q => e q.symm
      rw [if_neg e, noteS_cnt, ih, nI_add, cnt_t (by simp [e']), Nat.add_assoc]
end
