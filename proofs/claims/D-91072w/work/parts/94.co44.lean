/-! the component: the bill of a night -/
theorem smI_N {f : Nat → Int32} {g : Nat → Nat} : ∀ {n : Nat}, (∀ i, i < n → f i = nI (g i)) → smI f n = nI (smP (fun _ => true) g n)
  | 0, _ => rfl
  | n + 1, h => by
    show smI f n + f n = nI (smP (fun _ => true) g n + (if true = true then g n else 0))
    rw [smI_N (fun i hi => h i (by omega)), h n (by omega), nI_add, if_pos rfl]
theorem smP_if {P : Nat → Bool} {p : Nat → Nat} : ∀ n, smP (fun _ => true) (fun i => if P i = true then p i else 0) n = smP P p n
  | 0 => rfl
  | n + 1 => by rw [smP, smP, smP_if n, if_pos rfl]
abbrev usB (T : Mi) (t : Nat) : Nat → Bool := fun r => !fr0 T t r
abbrev pxN (T : Mi) (t : Nat) : Nat → Nat := fun r => nt (T 488 (10 * t + r))
section
variable {T : Mi} {t : Nat}
theorem px_ok (hpr : prOk T t) {r : Nat} (hr : r < rn T t) : T 488 (10 * t + r) = nI (pxN T t r) ∧ pxN T t r ≤ 1000 := by
  obtain ⟨p, hp, e⟩ := hpr r hr
  show T 488 (10 * t + r) = nI (nt (T 488 (10 * t + r))) ∧ nt (T 488 (10 * t + r)) ≤ 1000
  rw [e, nt_nI (by omega)]
  exact ⟨rfl, hp.2⟩
theorem us_cnt : cnt (usB T t) (rn T t) = usedN T (pn T) t (rn T t) := by
  unfold usedN
  exact cnt_c (fun i _ => by unfold usB fr0; simp)
theorem biI_eq (hpr : prOk T t) (f : Nat) : biI T t f = nI (smP (tkM (pxN T t) (usB T t) (rn T t) (usedN T (pn T) t (rn T t) - f)) (pxN T t) (rn T t)) := by
  have hp : ∀ r, r < rn T t → prI T t r = nI (pxN T t r) ∧ pxN T t r < 2 ^ 31 := fun r hr => ⟨(px_ok hpr hr).1, by have := (px_ok hpr hr).2; omega⟩
  have h1 : ∀ f, biI T t f = nI (smP (fun i => !frI (prI T t) (rn T t) (fr0 T t) f i) (pxN T t) (rn T t)) := fun f => by
    unfold biI
    rw [smI_N (g := fun i => if (!frI (prI T t) (rn T t) (fr0 T t) f i) = true then pxN T t i else 0) (fun i hi => by
      cases frI (prI T t) (rn T t) (fr0 T t) f i with
      | true => rfl
      | false => exact (hp i hi).1), smP_if]
  by_cases hf : f ≤ cnt (usB T t) (rn T t)
  · rw [h1, bill_eq hp hf, us_cnt]
  · have hst : frI (prI T t) (rn T t) (fr0 T t) f = frI (prI T t) (rn T t) (fr0 T t) (cnt (usB T t) (rn T t)) := by
      refine frI_stop ?_ f (by omega)
      obtain ⟨a1, a2, a3⟩ := frI_spec hp (fr := fr0 T t) (k := cnt (usB T t) (rn T t)) (Nat.le_refl _)
      rcases bst_spec hp (fr := frI (prI T t) (rn T t) (fr0 T t) (cnt (usB T t) (rn T t))) (m := rn T t) (Nat.le_refl _) with ⟨g1, -⟩ | ⟨q, -, g2, g3, -⟩
      · exact g1
      · exfalso
        have c := cnt_sp (P := usB T t) (Q := frI (prI T t) (rn T t) (fr0 T t) (cnt (usB T t) (rn T t))) (rn T t)
        have e1 : cnt (fun i => usB T t i && frI (prI T t) (rn T t) (fr0 T t) (cnt (usB T t) (rn T t)) i) (rn T t) = cnt (usB T t) (rn T t) := (cnt_c (fun i _ => Bool.and_comm (usB T t i) _)).trans a2
        have e2 : ¬ cnt (fun i => usB T t i && !frI (prI T t) (rn T t) (fr0 T t) (cnt (usB T t) (rn T t)) i) (rn T t) = 0 := cnt_ge (p := q) (by
          have : fr0 T t q = false := by
            cases e : fr0 T t q with
            | false => rfl
            | true => rw [a1 q e] at g3; cases g3
          show (!fr0 T t q && !_) = true
          rw [this, g3]
          rfl) g2
        omega
    have e3 : biI T t f = biI T t (cnt (usB T t) (rn T t)) := by rw [h1, h1, hst]
    rw [e3, h1, bill_eq hp (Nat.le_refl _), us_cnt, Nat.sub_self, show usedN T (pn T) t (rn T t) - f = 0 by rw [← us_cnt]; omega]
end
