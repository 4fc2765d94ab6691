/-! the most that find a bed: the two ways to find it agree -/
theorem cnt_nd {u q : Nat} (h : nd q u = 0) : ∀ n, cnt u.testBit n = cnt q.testBit n + cnt (nd u q).testBit n
  | 0 => rfl
  | n + 1 => by
    have ih := cnt_nd h n
    cases hq : q.testBit n with
    | true =>
      have hu := nd_sub h hq
      rw [cnt_t hu, cnt_t hq, cnt_f (by rw [nd_bit, hu, hq]; rfl), ih]
      omega
    | false =>
      cases hu : u.testBit n with
      | true => rw [cnt_t hu, cnt_f hq, cnt_t (by rw [nd_bit, hu, hq]; rfl), ih]; omega
      | false => rw [cnt_f hu, cnt_f hq, cnt_f (by rw [nd_bit, hu]; rfl), ih]
theorem or_nd {q u : Nat} (h : q &&& u = 0) : nd (q ||| u) q = u ∧ nd q (q ||| u) = 0 := by
  have hb : ∀ i, (q.testBit i && u.testBit i) = false := fun i => by rw [← Nat.testBit_and, h, Nat.zero_testBit]
  refine ⟨Nat.eq_of_testBit_eq (fun i => ?_), sub_nd (fun i hi => by rw [Nat.testBit_or, hi]; rfl)⟩
  have := hb i
  rw [nd_bit, Nat.testBit_or]
  cases hq : q.testBit i <;> cases hu : u.testBit i <;> simp [hq, hu] at this ⊢
theorem nd_or {q u : Nat} (h : nd q u = 0) : q ||| nd u q = u ∧ q &&& nd u q = 0 := by
  refine ⟨Nat.eq_of_testBit_eq (fun i => ?_), Nat.eq_of_testBit_eq (fun i => ?_)⟩
  · rw [Nat.testBit_or, nd_bit]
    cases hq : q.testBit i with
    | true => rw [nd_sub h hq]; rfl
    | false => simp
  · rw [Nat.testBit_and, nd_bit, Nat.zero_testBit]
    cases q.testBit i <;> simp
theorem nd_0 (u : Nat) : nd u 0 = u ∧ nd 0 u = 0 := ⟨Nat.eq_of_testBit_eq (fun i => by rw [nd_bit]; simp), sub_nd (fun i h => by simp at h)⟩
theorem nd_tr {a b c : Nat} (h1 : nd a b = 0) (h2 : nd b c = 0) : nd a c = 0 := sub_nd (fun i h => nd_sub h2 (nd_sub h1 h))
theorem nd_ndl {u s q : Nat} (h : nd u s = 0) : nd (nd u q) (nd s q) = 0 := sub_nd (fun i hi => by
  rw [nd_bit] at hi ⊢
  obtain ⟨h1, h2⟩ := Bool.and_eq_true_iff.mp hi
  rw [nd_sub h h1, h2]; rfl)
theorem nd_l (u q : Nat) : nd (nd u q) u = 0 := sub_nd (fun i hi => by rw [nd_bit] at hi; exact (Bool.and_eq_true_iff.mp hi).1)
def MX (F : Nat → Nat → Bool) (n : Nat) : Nat → Nat → Nat
  | 0, _ => 0
  | k + 1, s => fA (gM (F (n - (k + 1))) (MX F n k) s) s (MX F n k s) 10
theorem MX_le (F : Nat → Nat → Bool) (n : Nat) : ∀ k s, MX F n k s ≤ 10 * k
  | 0, _ => Nat.le_refl _
  | k + 1, s => by
    rw [MX]
    have := fA_inv (g := gM (F (n - (k + 1))) (MX F n k) s) (s := s) (P := fun v => v ≤ 10 * k + 10) (fun _ _ _ _ _ _ q => gM_le (MX_le F n k) q) (v := MX F n k s) (by have := MX_le F n k s; omega) 10 (Nat.le_refl _)
    omega
def Su (P : Nat → Nat → Bool) (n : Nat) : Nat → Nat → Prop
  | 0, u => u = 0
  | k + 1, u => ∃ q, P (n - (k + 1)) q = true ∧ nd q u = 0 ∧ Su P n k (nd u q)
section
variable {F P : Nat → Nat → Bool} {n A : Nat}
theorem MX_up (hP : ∀ r q, r < n → P r q = true → F r q = true ∧ q < 1024 ∧ cnt q.testBit 10 ≤ 2) : ∀ k s u, k ≤ n → Su P n k u → nd u s = 0 → cnt u.testBit 10 ≤ MX F n k s
  | 0, s, u, _, h, _ => by
    rw [show u = 0 from h, cnt_z (fun i _ => Nat.zero_testBit i)]
    exact Nat.zero_le _
  | k + 1, s, u, hk, ⟨q, h1, h2, h3⟩, hs => by
    have ih := fun s u => MX_up hP k s u (by omega)
    obtain ⟨f1, f2, f3⟩ := hP _ _ (by omega) h1
    rw [MX]
    by_cases h0 : q = 0
    · subst h0
      rw [(nd_0 u).1] at h3
      have h4 := ih s u h3 hs
      exact fA_inv (P := fun v => cnt u.testBit 10 ≤ v) (fun a b v _ _ _ hv => by
        unfold gM
        split
        · split <;> omega
        · exact hv) h4 10 (Nat.le_refl _)
    · obtain ⟨a, b, hab, hb, hqa, hqe⟩ := pair_of f2 h0 f3
      have hqs := nd_tr h2 hs
      have h4 := ih (nd s q) (nd u q) h3 (nd_ndl hs)
      have h5 := cnt_nd h2 10
      refine Nat.le_trans (show cnt u.testBit 10 ≤ cnt q.testBit 10 + MX F n k (nd s q) by omega) ?_
      refine fA_hit (P := fun v => cnt q.testBit 10 + MX F n k (nd s q) ≤ v) (a := a) (b := b) (fun q' v hv => ?_) (nd_sub hqs hqa) hab hb (fun v => ?_) 10 (Nat.le_refl _) (by omega)
      · unfold gM
        split
        · split <;> omega
        · exact hv
      · rw [← hqe]
        unfold gM
        rw [if_pos ⟨hqs, f1⟩]
        split <;> omega
theorem MX_at (hP : ∀ r q, nd q A = 0 → F r q = true → P r q = true) (h0 : ∀ r, P r 0 = true) : ∀ k s, nd s A = 0 → ∃ u, nd u s = 0 ∧ Su P n k u ∧ cnt u.testBit 10 = MX F n k s
  | 0, s, _ => ⟨0, (nd_0 s).2, rfl, cnt_z (fun i _ => Nat.zero_testBit i)⟩
  | k + 1, s, hs => by
    have ih := MX_at hP h0 k
    rw [MX]
    refine fA_inv (P := fun v => ∃ u, nd u s = 0 ∧ Su P n (k + 1) u ∧ cnt u.testBit 10 = v) (fun a b v _ _ _ hv => ?_) ?_ 10 (Nat.le_refl _)
    · unfold gM
      split
      · rename_i hc
        split
        · obtain ⟨u, u1, u2, u3⟩ := ih (nd s (2 ^ a ||| 2 ^ b)) (nd_tr (nd_l _ _) hs)
          generalize 2 ^ a ||| 2 ^ b = q at *
          have hd : q &&& u = 0 := Nat.eq_of_testBit_eq (fun i => by
            rw [Nat.testBit_and, Nat.zero_testBit]
            cases hu : u.testBit i with
            | false => simp
            | true =>
              have := nd_sub u1 hu
              rw [nd_bit] at this
              obtain ⟨-, z⟩ := Bool.and_eq_true_iff.mp this
              cases hq : q.testBit i with
              | false => rfl
              | true => rw [hq] at z; cases z)
          obtain ⟨o1, o2⟩ := or_nd hd
          refine ⟨q ||| u, sub_nd (fun i hi => ?_), ⟨q, hP _ _ (nd_tr hc.1 hs) hc.2, o2, by rw [o1]; exact u2⟩, ?_⟩
          · rw [Nat.testBit_or] at hi
            rcases Bool.or_eq_true_iff.mp hi with z | z
            · exact nd_sub hc.1 z
            · exact nd_sub (nd_tr u1 (nd_l _ _)) z
          · rw [cnt_nd o2 10, o1, u3]
        · exact hv
      · exact hv
    · obtain ⟨u, u1, u2, u3⟩ := ih s hs
      exact ⟨u, u1, ⟨0, h0 _, (nd_0 u).2, by rw [(nd_0 u).1]; exact u2⟩, u3⟩
end
theorem mxS_spec (P : Nat → Bool) : ∀ N, (∀ s, s < N → P s = true → cnt s.testBit 10 ≤ mxS P N) ∧ (mxS P N = 0 ∨ ∃ s, s < N ∧ P s = true ∧ cnt s.testBit 10 = mxS P N)
  | 0 => ⟨fun s h => absurd h (Nat.not_lt_zero _), Or.inl rfl⟩
  | N + 1 => by
    obtain ⟨h1, h2⟩ := mxS_spec P N
    rw [mxS]
    split
    · rename_i hc
      refine ⟨fun s hs hp => ?_, Or.inr ⟨N, by omega, hc.1, rfl⟩⟩
      by_cases e : s = N
      · rw [e]
        exact Nat.le_refl _
      · have := h1 s (by omega) hp
        omega
    · rename_i hc
      refine ⟨fun s hs hp => ?_, h2.imp id (fun ⟨s, q1, q2⟩ => ⟨s, by omega, q2⟩)⟩
      by_cases e : s = N
      · subst e
        exact Nat.not_lt.mp (fun q => hc ⟨hp, q⟩)
      · exact h1 s (by omega) hp
section
variable {T : Mi} {t : Nat}
theorem mP_al {r x : Nat} (h : mP T t r x = true) : nd x (al T t) = 0 ∧ mbB T (10 * t + r) x (pn T) = true := by
  unfold mP at h
  obtain ⟨h1, h2⟩ := Bool.and_eq_true_iff.mp h
  exact ⟨of_decide_eq_true h1, h2⟩
theorem RC_al : ∀ r x, RC T t r x → nd x (al T t) = 0
  | 0, x, h => by rw [show x = 0 from h]; exact (nd_0 _).2
  | r + 1, z, ⟨s, x, h1, h2, h3, h4, h5⟩ => by
    rw [h5]
    refine sub_nd (fun i hi => ?_)
    rw [Nat.testBit_or] at hi
    rcases Bool.or_eq_true_iff.mp hi with q | q
    · exact nd_sub (RC_al r s h2) q
    · exact nd_sub (mP_al h3).1 q
theorem and_0 {x y : Nat} (h : ∀ i, x.testBit i = true → y.testBit i = true → False) : x &&& y = 0 := Nat.eq_of_testBit_eq (fun i => by
  rw [Nat.testBit_and, Nat.zero_testBit]
  cases hx : x.testBit i with
  | false => rfl
  | true =>
    cases hy : y.testBit i with
    | false => rfl
    | true => exact (h i hx hy).elim)
theorem and_no {x y i : Nat} (h : x &&& y = 0) (h1 : x.testBit i = true) (h2 : y.testBit i = true) : False := by
  have : (x &&& y).testBit i = true := by rw [Nat.testBit_and, h1, h2]; rfl
  rw [h, Nat.zero_testBit] at this
  cases this
theorem RC_of {n : Nat} (hal : al T t < 1024) : ∀ k r x y, r + k = n → RC T t r x → Su (mP T t) n k y → x &&& y = 0 → RC T t n (x ||| y)
  | 0, r, x, y, h1, h2, h3, _ => by
    rw [show y = 0 from h3, Nat.or_zero, show n = r by omega]
    exact h2
  | k + 1, r, x, y, h1, h2, ⟨q, p1, p2, p3⟩, h4 => by
    rw [show n - (k + 1) = r by omega] at p1
    obtain ⟨o1, o2⟩ := nd_or p2
    have hx : x < 1024 := sub_lt2 (n := 10) (RC_al r x h2) hal
    have hqx : q &&& x = 0 := and_0 (fun i a b => and_no h4 b (nd_sub p2 a))
    have := RC_of hal k (r + 1) (x ||| q) (nd y q) (by omega) ⟨x, q, hx, h2, p1, hqx, rfl⟩ p3 (and_0 (fun i a b => by
      rw [Nat.testBit_or] at a
      rcases Bool.or_eq_true_iff.mp a with z | z
      · exact and_no h4 z (nd_sub (nd_l y q) b)
      · exact and_no o2 z b))
    rw [Nat.or_assoc, o1] at this
    exact this
theorem Su_of {n : Nat} : ∀ r k x y, r + k = n → RC T t r x → Su (mP T t) n k y → x &&& y = 0 → Su (mP T t) n n (x ||| y)
  | 0, k, x, y, h1, h2, h3, _ => by
    rw [show x = 0 from h2, Nat.zero_or]
    rw [show k = n by omega] at h3
    exact h3
  | r + 1, k, z, y, h1, ⟨s, q, hs, p1, p2, p3, p4⟩, h3, h4 => by
    subst p4
    have hqy : q &&& y = 0 := and_0 (fun i a b => and_no h4 (by rw [Nat.testBit_or, a, Bool.or_true]) b)
    obtain ⟨o1, o2⟩ := or_nd hqy
    have := Su_of (n := n) r (k + 1) s (q ||| y) (by omega) p1 ⟨q, by rw [show n - (k + 1) = r by omega]; exact p2, o2, by rw [o1]; exact h3⟩ (and_0 (fun i a b => by
      rw [Nat.testBit_or] at b
      rcases Bool.or_eq_true_iff.mp b with z | z
      · exact and_no p3 z a
      · exact and_no h4 (by rw [Nat.testBit_or, a, Bool.true_or]) z))
    rw [← Nat.or_assoc] at this
    exact this
theorem mb_c2 (hI : Tok T) (ht : t < tn T) (hbe : bedsOk T t) {r q : Nat} (hr : r < rn T t) (hq : q < 2 ^ pn T) (h : mbB T (10 * t + r) q (pn T) = true) : cnt q.testBit 10 ≤ 2 := by
  obtain ⟨m, hm, hb⟩ := hbe r hr
  rw [← fit_mb (tk_p2 hI) hq hb hm] at h
  unfold fitB at h
  by_cases h0 : q = 0
  · rw [h0, cnt_z (fun i _ => Nat.zero_testBit i)]
    exact Nat.zero_le _
  · rw [if_neg h0] at h
    by_cases h1 : T 489 (10 * t + r) = 0 ∨ T 486 (10 * t + r) < nI (cnt q.testBit 10)
    · rw [if_pos h1] at h
      cases h
    · have h2 : ¬ T 486 (10 * t + r) < nI (cnt q.testBit 10) := fun z => h1 (Or.inr z)
      have hc := cnt_le q.testBit 10
      rw [hb, nI_ltE (by omega) (by omega)] at h2
      omega
theorem mb_z {x n : Nat} : mbB T x 0 n = true := by
  have : ∀ n, mb T x 0 n = some (0, -1) := by
    intro n
    induction n with
    | zero => rfl
    | succ n ih =>
      unfold mb
      rw [ih]
      simp
  unfold mbB
  rw [this]
  rfl
theorem most_eq (hI : Tok T) (ht : t < tn T) (hbe : bedsOk T t) : MX (fun r q => mbB T (10 * t + r) q (pn T)) (rn T t) (rn T t) (al T t) = mxS (fun s => dB (RC T t (rn T t) s)) 1024 := by
  have hal2 : al T t < 2 ^ pn T := msk_lt _ _
  have hal : al T t < 1024 := al_lt T t (tk_p2 hI)
  obtain ⟨m1, m2⟩ := mxS_spec (fun s => dB (RC T t (rn T t) s)) 1024
  apply Nat.le_antisymm
  · obtain ⟨u, u1, u2, u3⟩ := MX_at (F := fun r q => mbB T (10 * t + r) q (pn T)) (P := mP T t) (n := rn T t) (A := al T t) (fun r q h1 h2 => by unfold mP; rw [decide_eq_true h1]; exact h2) (fun r => by unfold mP; rw [decide_eq_true (nd_0 _).2]; exact mb_z) (rn T t) (al T t) (sub_nd (fun i h => h))
    rw [← u3]
    refine m1 u (sub_lt2 (n := 10) u1 hal) (dB_t ?_)
    have := RC_of hal (rn T t) 0 0 u (by omega) rfl u2 (Nat.zero_and u)
    rw [Nat.zero_or] at this
    exact this
  · rcases m2 with q | ⟨s, s1, s2, s3⟩
    · rw [q]
      exact Nat.zero_le _
    · have hrc := dB_of s2
      rw [← s3]
      have hsu := Su_of (n := rn T t) (rn T t) 0 s 0 (by omega) hrc rfl (Nat.and_zero s)
      rw [Nat.or_zero] at hsu
      refine MX_up (P := mP T t) (fun r q hr h => ?_) (rn T t) (al T t) s (Nat.le_refl _) hsu (RC_al _ _ hrc)
      obtain ⟨p1, p2⟩ := mP_al h
      exact ⟨p2, sub_lt2 (n := 10) p1 hal, mb_c2 hI ht hbe hr (sub_lt2 p1 hal2) p2⟩
end
