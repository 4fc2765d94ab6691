/-! a set that fits -/
theorem lo_spec {s : Nat} (hs : s < 1024) (h0 : ¬ s = 0) : lo s < 10 ∧ s.testBit (lo s) = true ∧ ∀ i, i < lo s → s.testBit i = false := by
  have key : ∀ s : Fin 1024, ¬ s.1 = 0 → lo s.1 < 10 ∧ s.1.testBit (lo s.1) = true := by decide +kernel
  refine ⟨(key ⟨s, hs⟩ h0).1, (key ⟨s, hs⟩ h0).2, fun i hi => ?_⟩
  have := runE_in (P := fun i => !s.testBit i) 10 0 i (Nat.zero_le _) hi
  simpa using this
abbrev rs (s : Nat) : Nat := s &&& (s - 1)
theorem rs_bit {s : Nat} (hs : s < 1024) (h0 : ¬ s = 0) (i : Nat) : (rs s).testBit i = (s.testBit i && !decide (i = lo s)) := by
  have key : ∀ s : Fin 1024, ¬ s.1 = 0 → ∀ i : Fin 10, (rs s.1).testBit i.1 = (s.1.testBit i.1 && !decide (i.1 = lo s.1)) := by decide +kernel
  by_cases hi : i < 10
  · exact key ⟨s, hs⟩ h0 ⟨i, hi⟩
  · have h1 : s.testBit i = false := Nat.testBit_lt_two_pow (Nat.lt_of_lt_of_le hs (Nat.pow_le_pow_right (n := 2) (i := 10) (by decide) (by omega)))
    rw [Nat.testBit_and, h1]
    rfl
theorem rs_lt {s : Nat} (hs : s < 1024) : rs s < 1024 := and_lt (n := 10) hs
theorem rs_cnt {s : Nat} (hs : s < 1024) (h0 : ¬ s = 0) : cnt s.testBit 10 = 1 + cnt (rs s).testBit 10 := by
  have h := cnt_set (P := (rs s).testBit) (Q := s.testBit) (s := lo s) (fun i => by
    rw [rs_bit hs h0 i]
    by_cases e : i = lo s
    · subst e; simp [(lo_spec hs h0).2.1]
    · simp [e]) (by rw [rs_bit hs h0]; simp) 10
  rw [if_pos (lo_spec hs h0).1] at h
  omega
theorem cnt_0n {s : Nat} (hs : s < 1024) : cnt s.testBit 10 = 0 ↔ s = 0 := by
  have key : ∀ s : Fin 1024, cnt s.1.testBit 10 = 0 ↔ s.1 = 0 := by decide +kernel
  exact key ⟨s, hs⟩
theorem mb_skip {I : Mi} {x s a b : Nat} (hab : a ≤ b) (h : ∀ i, a ≤ i → i < b → s.testBit i = false) : mb I x s b = mb I x s a := by
  induction b with
  | zero => rw [Nat.le_zero.mp hab]
  | succ b ih =>
    rcases Nat.lt_or_ge b a with q | q
    · rw [show a = b + 1 by omega]
    · rw [mb, ih q (fun i h1 h2 => h i h1 (by omega)), h b q (by omega)]
      cases mb I x s a with
      | none => rfl
      | some z => rfl
theorem mb_step {I : Mi} {x s p n : Nat} {one : Int32} (hb : s.testBit p = true) (h : mb I x s p = some (n, one)) : mb I x s (p + 1) = if I 489 x = 0 ∨ (¬ I 476 p = 0 ∧ I 487 x = 0) ∨ nI n = I 486 x ∨ (n = 1 ∧ shB I (nt one) p = false) then none else some (n + 1, nI p) := by
  rw [mb, h]
  simp [hb]
def fitB (T : Mi) (x s : Nat) : Bool :=
  if s = 0 then true else if T 489 x = 0 ∨ T 486 x < nI (cnt s.testBit 10) then false else if ¬ T 476 (lo s) = 0 ∧ T 487 x = 0 then false
  else if rs s = 0 then true else if ¬ T 476 (lo (rs s)) = 0 ∧ T 487 x = 0 then false else shB T (lo s) (lo (rs s))
theorem fit_mb {T : Mi} {x s n m : Nat} (hn : n ≤ 10) (hs : s < 2 ^ n) (hb : T 486 x = nI m) (hm : 1 ≤ m ∧ m ≤ 2) : fitB T x s = mbB T x s n := by
  have hs10 : s < 1024 := Nat.lt_of_lt_of_le hs (Nat.pow_le_pow_right (by decide) hn)
  have hin : ∀ i, n ≤ i → s.testBit i = false := fun i hi => Nat.testBit_lt_two_pow (Nat.lt_of_lt_of_le hs (Nat.pow_le_pow_right (by decide) hi))
  have lt_of : ∀ i, s.testBit i = true → i < n := fun i h => Nat.not_le.mp fun q => by rw [hin i q] at h; cases h
  unfold fitB mbB
  by_cases h0 : s = 0
  · rw [if_pos h0]
    subst h0
    rw [mb_skip (Nat.zero_le n) (fun i _ _ => by simp)]
    rfl
  rw [if_neg h0]
  obtain ⟨l1, l2, l3⟩ := lo_spec hs10 h0
  have hln := lt_of _ l2
  have e0 : mb T x s (lo s) = some (0, -1) := by rw [mb_skip (Nat.zero_le _) (fun i _ h => l3 i h)]; rfl
  have e1 := mb_step l2 e0
  have hc1 := rs_cnt hs10 h0
  have n0 : ¬ nI 0 = T 486 x := by rw [hb, nI_eq (by decide) (by omega)]; omega
  by_cases hh : T 489 x = 0
  · rw [if_pos (Or.inl hh)]
    rw [if_pos (Or.inl hh)] at e1
    rw [mb_none e1 (show lo s + 1 ≤ n by omega)]
    rfl
  by_cases hl : ¬ T 476 (lo s) = 0 ∧ T 487 x = 0
  · rw [if_pos (Or.inr (Or.inl hl))] at e1
    rw [mb_none e1 (show lo s + 1 ≤ n by omega)]
    by_cases hq : T 489 x = 0 ∨ T 486 x < nI (cnt s.testBit 10)
    · rw [if_pos hq]; rfl
    · rw [if_neg hq, if_pos hl]; rfl
  rw [if_neg (by
    rintro (q | q | q | q)
    · exact hh q
    · exact hl q
    · exact n0 q
    · exact absurd q.1 (by decide))] at e1
  have hcl := cnt_le s.testBit 10
  by_cases hr : rs s = 0
  · have hc2 : cnt (rs s).testBit 10 = 0 := (cnt_0n (rs_lt hs10)).mpr hr
    rw [if_neg (by
      rintro (q | q)
      · exact hh q
      · rw [hb, nI_ltI (by omega) (by omega)] at q; omega), if_neg hl, if_pos hr]
    rw [mb_skip (show lo s + 1 ≤ n by omega) (fun i h1 h2 => by
      have := rs_bit hs10 h0 i
      rw [hr] at this
      simp at this
      cases hi : s.testBit i with
      | false => rfl
      | true => exact absurd (this hi) (by omega)), e1]
    rfl
  · obtain ⟨k1, k2, k3⟩ := lo_spec (rs_lt hs10) hr
    have hk2 : s.testBit (lo (rs s)) = true ∧ ¬ lo (rs s) = lo s := by
      have := rs_bit hs10 h0 (lo (rs s))
      rw [k2] at this
      simpa using this.symm
    have hlt : lo s < lo (rs s) := by
      rcases Nat.lt_or_ge (lo (rs s)) (lo s) with q | q
      · rw [l3 _ q] at hk2; cases hk2.1
      · have := hk2.2; omega
    have hkn := lt_of _ hk2.1
    have e2 : mb T x s (lo (rs s)) = some (1, nI (lo s)) := by
      rw [mb_skip (show lo s + 1 ≤ lo (rs s) by omega) (fun i h1 h2 => ?_), e1]
      have := rs_bit hs10 h0 i
      rw [k3 i h2] at this
      cases hi : s.testBit i with
      | false => rfl
      | true => rw [hi] at this; simp at this; omega
    have e3 := mb_step hk2.1 e2
    rw [nt_nI (by omega)] at e3
    have hc3 := rs_cnt (rs_lt hs10) hr
    by_cases hm1 : m = 1
    · subst hm1
      rw [if_pos (Or.inr (Or.inr (Or.inl hb.symm)))] at e3
      rw [mb_none e3 (show lo (rs s) + 1 ≤ n by omega), if_pos (Or.inr (by rw [hb, nI_ltI (by omega) (by omega)]; omega))]
      rfl
    · have hm2 : m = 2 := by omega
      subst hm2
      have n1 : ¬ nI 1 = T 486 x := by rw [hb]; decide
      by_cases hr2 : rs (rs s) = 0
      · have hc4 : cnt (rs (rs s)).testBit 10 = 0 := (cnt_0n (rs_lt (rs_lt hs10))).mpr hr2
        rw [if_neg (by
          rintro (q | q)
          · exact hh q
          · rw [hb, nI_ltI (by omega) (by omega)] at q; omega), if_neg hl, if_neg hr]
        have hend : mb T x s n = mb T x s (lo (rs s) + 1) := mb_skip (by omega) (fun i h1 h2 => by
          have a1 := rs_bit (rs_lt hs10) hr i
          rw [hr2, rs_bit hs10 h0 i] at a1
          cases hi : s.testBit i with
          | false => rfl
          | true => rw [hi] at a1; simp at a1; omega)
        rw [hend, e3]
        by_cases hl2 : ¬ T 476 (lo (rs s)) = 0 ∧ T 487 x = 0
        · rw [if_pos hl2, if_pos (Or.inr (Or.inl hl2))]; rfl
        · rw [if_neg hl2]
          cases hsh : shB T (lo s) (lo (rs s)) with
          | false => rw [if_pos (Or.inr (Or.inr (Or.inr ⟨rfl, rfl⟩)))]; rfl
          | true =>
            rw [if_neg (by
              rintro (q | q | q | q)
              · exact hh q
              · exact hl2 q
              · exact n1 q
              · exact absurd q.2 (by decide))]
            rfl
      · have hc4 : ¬ cnt (rs (rs s)).testBit 10 = 0 := fun q => hr2 ((cnt_0n (rs_lt (rs_lt hs10))).mp q)
        rw [if_pos (Or.inr (by rw [hb, nI_ltI (by omega) (by omega)]; omega))]
        obtain ⟨j1, j2, j3⟩ := lo_spec (rs_lt (rs_lt hs10)) hr2
        have hj2 : s.testBit (lo (rs (rs s))) = true ∧ lo (rs s) < lo (rs (rs s)) := by
          have a1 := rs_bit (rs_lt hs10) hr (lo (rs (rs s)))
          rw [j2] at a1
          have a2 : (rs s).testBit (lo (rs (rs s))) = true ∧ ¬ lo (rs (rs s)) = lo (rs s) := by simpa using a1.symm
          have a3 := rs_bit hs10 h0 (lo (rs (rs s)))
          rw [a2.1] at a3
          have a4 := a3.symm
          rw [Bool.and_eq_true] at a4
          refine ⟨a4.1, ?_⟩
          rcases Nat.lt_or_ge (lo (rs (rs s))) (lo (rs s)) with q | q
          · rw [k3 _ q] at a2; cases a2.1
          · have := a2.2; omega
        have hjn := lt_of _ hj2.1
        by_cases hf : mb T x s (lo (rs s) + 1) = none
        · rw [mb_none hf (by omega)]; rfl
        · rw [e3] at hf
          split at hf
          · exact absurd rfl hf
          · rename_i hng
            rw [if_neg hng] at e3
            have e4 : mb T x s (lo (rs (rs s))) = some (2, nI (lo (rs s))) := by
              rw [mb_skip (show lo (rs s) + 1 ≤ lo (rs (rs s)) by omega) (fun i h1 h2 => ?_), e3]
              have a1 := rs_bit (rs_lt hs10) hr i
              rw [j3 i h2, rs_bit hs10 h0 i] at a1
              cases hi : s.testBit i with
              | false => rfl
              | true => rw [hi] at a1; simp at a1; omega
            have e5 := mb_step hj2.1 e4
            rw [if_pos (Or.inr (Or.inr (Or.inl hb.symm)))] at e5
            rw [mb_none e5 (show lo (rs (rs s)) + 1 ≤ n by omega)]
            rfl
def jnB (T : Mi) (x s q : Nat) : Bool := !decide (T 489 x = 0) && decide (nI (cnt s.testBit 10) < T 486 x) && !(!decide (T 476 q = 0) && decide (T 487 x = 0)) && (decide (s = 0) || shB T q (lo s))
section Co3
variable {w : Wd} {l : Launch} {K : Ly} {S : Sh} {I T : Mi} {J : Ml}
theorem bit_lt_n {s n i : Nat} (hs : s < 2 ^ n) (h : s.testBit i = true) : i < n := Nat.not_le.mp fun q => by
  rw [Nat.testBit_lt_two_pow (Nat.lt_of_lt_of_le hs (Nat.pow_le_pow_right (by decide) q))] at h; cases h
theorem kX1_fits (hR : CoR K S I T) (hI : Tok T) (hF : FrOk T) {t r s : Nat} (ht : t < tn T) (hr : r < rn T t) (hs : s < 2 ^ pn T) (hbe : bedsOk T t) : Ct w l yX1_fits cX1_fits 6 (some .boolean) 2 0 0 [.ref 0, .ref (ra K t r), .int (nI s)] S I J (Qe (some (.int (bz (mbB T (10 * t + r) s (pn T))))) S I J) := by
  obtain ⟨m, hm, hb⟩ := hbe r hr
  rw [← fit_mb (tk_p2 hI) hs hb hm]
  have hs10 : s < 1024 := Nat.lt_of_lt_of_le hs (Nat.pow_le_pow_right (by decide) (tk_p2 hI))
  have hcl := cnt_le s.testBit 10
  refine Ct.of [some _, some _, some _, none, none, none] rfl (Nat.le_of_ble_eq_true rfl) (by decide) ?_
  intro κ hκ C
  subst hκ
  have hC := cr_S hR
  have hp10 := tk_p2 hI
  have ht6 := tk_t2 hI
  have hg30 := tk_g2 hI
  have hc30 := tk_c2 hI
  have hn500 := tk_n2 hI
  refine x_iload_n C dX1_fits_0 1 rfl rfl ?_
  refine x_ifneN C dX1_fits_1 4 6 rfl (by decide) (by omega) (fun h1 => ?_) (fun h1 => ?_)
  · refine x_aloadr_n C dX1_fits_6 7 rfl rfl ?_
    refine x_geti C fl_X1_196 (Or.inr (Or.inl rfl)) dX1_fits_7 10 rfl (cm_T hR ht hr) (cm_held hR ht hr) ?_
    refine x_ifeq C dX1_fits_10 13 24 rfl (by decide) (fun h10 => ?_) (fun h10 => ?_)
    · refine x_ic (j := 0) C dX1_fits_24 25 rfl ?_
      exact x_zret C dX1_fits_25 (Nat.le_refl _) (Nat.le_refl _) rfl (Qz_of (by unfold fitB; rw [if_neg h1, if_pos (Or.inl h10)]; rfl))
    · refine x_iload_n C dX1_fits_13 14 rfl rfl ?_
      refine x_callS C lk_X1_199 dX1_fits_14 17 rfl [_] [] rfl rfl (Nat.le_of_ble_eq_true rfl) (by decide) (Nat.le_refl _) (Nat.le_refl _) (kJ3_bitCount hs10) ?_
      rintro _ _ _ _ ⟨rfl, rfl, rfl, rfl⟩
      refine x_aloadr_n C dX1_fits_17 18 rfl rfl ?_
      refine x_geti C fl_X1_205 (Or.inl rfl) dX1_fits_18 21 rfl (cm_T hR ht hr) ((cm_beds hR ht hr).trans hb) ?_
      refine x_icmpleN C dX1_fits_21 24 26 rfl (by decide) (by omega) (by omega) (fun h21 => ?_) (fun h21 => ?_)
      · obtain ⟨l1, l2, l3⟩ := lo_spec hs10 h1
        have hlp := bit_lt_n hs l2
        have hfir : ¬ (T 489 (10 * t + r) = 0 ∨ T 486 (10 * t + r) < nI (cnt s.testBit 10)) := by
          rintro (q | q)
          · exact h10 q
          · rw [hb, nI_ltI (by omega) (by omega)] at q; exact h21 q
        refine x_iload_n C dX1_fits_26 27 rfl rfl ?_
        refine x_callS C lk_X1_208 dX1_fits_27 30 rfl [_] [] rfl rfl (Nat.le_of_ble_eq_true rfl) (by decide) (Nat.le_refl _) (Nat.le_refl _) (kJ3_numberOfTrailingZeros hs10 h1) ?_
        rintro _ _ _ _ ⟨rfl, rfl, rfl, rfl⟩
        refine x_istore_n C dX1_fits_30 31 rfl [_, _, _, _, _, _] (by decide) rfl rfl ?_
        refine x_iload_n C dX1_fits_31 32 rfl rfl ?_
        refine x_iload_n C dX1_fits_32 33 rfl rfl ?_
        refine x_ic (j := 1) C dX1_fits_33 34 rfl ?_
        refine x_isub C dX1_fits_34 35 rfl (pk_sub (by omega)) ?_
        refine x_iand C dX1_fits_35 36 rfl (nI_and _ _) ?_
        refine x_istore C dX1_fits_36 38 rfl [_, _, _, _, _, _] (by decide) rfl rfl ?_
        refine x_aloadr_n C dX1_fits_38 39 rfl rfl ?_
        refine x_getr C fl_X1_11 (Or.inr ⟨_, rfl⟩) dX1_fits_39 42 rfl hC.1 (coR_people hC) ?_
        refine x_iload_n C dX1_fits_42 43 rfl rfl ?_
        refine x_aaldr (t := 4) C dX1_fits_43 44 rfl (coA_people hC) (by decide) (coN_people hC) rfl (by omega) (by decide) (cp_elt hR hlp) ?_
        refine x_geti C fl_X1_211 (Or.inr (Or.inl rfl)) dX1_fits_44 47 rfl (cp_T hR hlp) (cp_low hR hlp) ?_
        refine x_ifeq C dX1_fits_47 50 59 rfl (by decide) (fun h47 => ?_) (fun h47 => ?_)
        · have hlow : ¬ (¬ T 476 (lo s) = 0 ∧ T 487 (10 * t + r) = 0) := by first | exact fun q => h54 q.2 | exact fun q => q.1 h47
          have hrl := rs_lt hs10
          refine x_iload C dX1_fits_59 61 rfl rfl ?_
          refine x_ifneN C dX1_fits_61 64 66 rfl (by decide) (Nat.lt_of_lt_of_le hrl (by decide)) (fun h61 => ?_) (fun h61 => ?_)
          · obtain ⟨k1, k2, k3⟩ := lo_spec hrl h61
            have hk : s.testBit (lo (rs s)) = true := by
              have := rs_bit hs10 h1 (lo (rs s))
              rw [k2] at this
              have h9 := this.symm
              rw [Bool.and_eq_true] at h9
              exact h9.1
            have hkp := bit_lt_n hs hk
            have hfit : fitB T (10 * t + r) s = if ¬ T 476 (lo (rs s)) = 0 ∧ T 487 (10 * t + r) = 0 then false else shB T (lo s) (lo (rs s)) := by unfold fitB; rw [if_neg h1, if_neg hfir, if_neg hlow, if_neg h61]
            rw [hfit]
            refine x_iload C dX1_fits_66 68 rfl rfl ?_
            refine x_callS C lk_X1_208 dX1_fits_68 71 rfl [_] [] rfl rfl (Nat.le_of_ble_eq_true rfl) (by decide) (Nat.le_refl _) (Nat.le_refl _) (kJ3_numberOfTrailingZeros hrl h61) ?_
            rintro _ _ _ _ ⟨rfl, rfl, rfl, rfl⟩
            refine x_istore C dX1_fits_71 73 rfl [_, _, _, _, _, _] (by decide) rfl rfl ?_
            refine x_aloadr_n C dX1_fits_73 74 rfl rfl ?_
            refine x_getr C fl_X1_11 (Or.inr ⟨_, rfl⟩) dX1_fits_74 77 rfl hC.1 (coR_people hC) ?_
            refine x_iload C dX1_fits_77 79 rfl rfl ?_
            refine x_aaldr (t := 4) C dX1_fits_79 80 rfl (coA_people hC) (by decide) (coN_people hC) rfl (by omega) (by decide) (cp_elt hR hkp) ?_
            refine x_geti C fl_X1_211 (Or.inr (Or.inl rfl)) dX1_fits_80 83 rfl (cp_T hR hkp) (cp_low hR hkp) ?_
            refine x_ifeq C dX1_fits_83 86 93 rfl (by decide) (fun h83 => ?_) (fun h83 => ?_)
            · have hl2 : ¬ (¬ T 476 (lo (rs s)) = 0 ∧ T 487 (10 * t + r) = 0) := fun q => q.1 h83
              refine x_aloadr_n C dX1_fits_93 94 rfl rfl ?_
              refine x_getr C fl_X1_11 (Or.inr ⟨_, rfl⟩) dX1_fits_94 97 rfl hC.1 (coR_people hC) ?_
              refine x_iload_n C dX1_fits_97 98 rfl rfl ?_
              refine x_aaldr (t := 4) C dX1_fits_98 99 rfl (coA_people hC) (by decide) (coN_people hC) rfl (by omega) (by decide) (cp_elt hR hlp) ?_
              refine x_aloadr_n C dX1_fits_99 100 rfl rfl ?_
              refine x_getr C fl_X1_11 (Or.inr ⟨_, rfl⟩) dX1_fits_100 103 rfl hC.1 (coR_people hC) ?_
              refine x_iload C dX1_fits_103 105 rfl rfl ?_
              refine x_aaldr (t := 4) C dX1_fits_105 106 rfl (coA_people hC) (by decide) (coN_people hC) rfl (by omega) (by decide) (cp_elt hR hkp) ?_
              refine x_callV C lk_X1_215 dX1_fits_106 109 rfl [_] [] rfl rfl (cp_T hR hlp) (Nat.le_of_ble_eq_true rfl) (by decide) (Nat.le_refl _) (Nat.le_refl _) (kX4_mayShare hR hI hF hlp hkp) ?_
              rintro _ _ _ _ ⟨rfl, rfl, rfl, rfl⟩
              refine x_ifeqZ C dX1_fits_109 112 116 rfl (by decide) (fun h109 => ?_) (fun h109 => ?_)
              · refine x_ic (j := 0) C dX1_fits_116 117 rfl ?_
                exact x_zret C dX1_fits_117 (Nat.le_refl _) (Nat.le_refl _) rfl (Qz_of (by rw [if_neg hl2, h109]; rfl))
              · refine x_ic (j := 1) C dX1_fits_112 113 rfl ?_
                refine x_goto C dX1_fits_113 117 (by decide) ?_
                exact x_zret C dX1_fits_117 (Nat.le_refl _) (Nat.le_refl _) rfl (Qz_of (by rw [if_neg hl2, h109]; rfl))
            · refine x_aloadr_n C dX1_fits_86 87 rfl rfl ?_
              refine x_geti C fl_X1_214 (Or.inr (Or.inl rfl)) dX1_fits_87 90 rfl (cm_T hR ht hr) (cm_low hR ht hr) ?_
              refine x_ifeq C dX1_fits_90 93 116 rfl (by decide) (fun h90 => ?_) (fun h90 => ?_)
              · refine x_ic (j := 0) C dX1_fits_116 117 rfl ?_
                exact x_zret C dX1_fits_117 (Nat.le_refl _) (Nat.le_refl _) rfl (Qz_of (by rw [if_pos ⟨h83, h90⟩]; rfl))
              · have hl2 : ¬ (¬ T 476 (lo (rs s)) = 0 ∧ T 487 (10 * t + r) = 0) := fun q => h90 q.2
                refine x_aloadr_n C dX1_fits_93 94 rfl rfl ?_
                refine x_getr C fl_X1_11 (Or.inr ⟨_, rfl⟩) dX1_fits_94 97 rfl hC.1 (coR_people hC) ?_
                refine x_iload_n C dX1_fits_97 98 rfl rfl ?_
                refine x_aaldr (t := 4) C dX1_fits_98 99 rfl (coA_people hC) (by decide) (coN_people hC) rfl (by omega) (by decide) (cp_elt hR hlp) ?_
                refine x_aloadr_n C dX1_fits_99 100 rfl rfl ?_
                refine x_getr C fl_X1_11 (Or.inr ⟨_, rfl⟩) dX1_fits_100 103 rfl hC.1 (coR_people hC) ?_
                refine x_iload C dX1_fits_103 105 rfl rfl ?_
                refine x_aaldr (t := 4) C dX1_fits_105 106 rfl (coA_people hC) (by decide) (coN_people hC) rfl (by omega) (by decide) (cp_elt hR hkp) ?_
                refine x_callV C lk_X1_215 dX1_fits_106 109 rfl [_] [] rfl rfl (cp_T hR hlp) (Nat.le_of_ble_eq_true rfl) (by decide) (Nat.le_refl _) (Nat.le_refl _) (kX4_mayShare hR hI hF hlp hkp) ?_
                rintro _ _ _ _ ⟨rfl, rfl, rfl, rfl⟩
                refine x_ifeqZ C dX1_fits_109 112 116 rfl (by decide) (fun h109 => ?_) (fun h109 => ?_)
                · refine x_ic (j := 0) C dX1_fits_116 117 rfl ?_
                  exact x_zret C dX1_fits_117 (Nat.le_refl _) (Nat.le_refl _) rfl (Qz_of (by rw [if_neg hl2, h109]; rfl))
                · refine x_ic (j := 1) C dX1_fits_112 113 rfl ?_
                  refine x_goto C dX1_fits_113 117 (by decide) ?_
                  exact x_zret C dX1_fits_117 (Nat.le_refl _) (Nat.le_refl _) rfl (Qz_of (by rw [if_neg hl2, h109]; rfl))
          · refine x_ic (j := 1) C dX1_fits_64 65 rfl ?_
            exact x_zret C dX1_fits_65 (Nat.le_refl _) (Nat.le_refl _) rfl (Qz_of (by unfold fitB; rw [if_neg h1, if_neg hfir, if_neg hlow, if_pos h61]; rfl))
        · refine x_aloadr_n C dX1_fits_50 51 rfl rfl ?_
          refine x_geti C fl_X1_214 (Or.inr (Or.inl rfl)) dX1_fits_51 54 rfl (cm_T hR ht hr) (cm_low hR ht hr) ?_
          refine x_ifne C dX1_fits_54 57 59 rfl (by decide) (fun h54 => ?_) (fun h54 => ?_)
          · have hlow : ¬ (¬ T 476 (lo s) = 0 ∧ T 487 (10 * t + r) = 0) := by first | exact fun q => h54 q.2 | exact fun q => q.1 h47
            have hrl := rs_lt hs10
            refine x_iload C dX1_fits_59 61 rfl rfl ?_
            refine x_ifneN C dX1_fits_61 64 66 rfl (by decide) (Nat.lt_of_lt_of_le hrl (by decide)) (fun h61 => ?_) (fun h61 => ?_)
            · obtain ⟨k1, k2, k3⟩ := lo_spec hrl h61
              have hk : s.testBit (lo (rs s)) = true := by
                have := rs_bit hs10 h1 (lo (rs s))
                rw [k2] at this
                have h9 := this.symm
                rw [Bool.and_eq_true] at h9
                exact h9.1
              have hkp := bit_lt_n hs hk
              have hfit : fitB T (10 * t + r) s = if ¬ T 476 (lo (rs s)) = 0 ∧ T 487 (10 * t + r) = 0 then false else shB T (lo s) (lo (rs s)) := by unfold fitB; rw [if_neg h1, if_neg hfir, if_neg hlow, if_neg h61]
              rw [hfit]
              refine x_iload C dX1_fits_66 68 rfl rfl ?_
              refine x_callS C lk_X1_208 dX1_fits_68 71 rfl [_] [] rfl rfl (Nat.le_of_ble_eq_true rfl) (by decide) (Nat.le_refl _) (Nat.le_refl _) (kJ3_numberOfTrailingZeros hrl h61) ?_
              rintro _ _ _ _ ⟨rfl, rfl, rfl, rfl⟩
              refine x_istore C dX1_fits_71 73 rfl [_, _, _, _, _, _] (by decide) rfl rfl ?_
              refine x_aloadr_n C dX1_fits_73 74 rfl rfl ?_
              refine x_getr C fl_X1_11 (Or.inr ⟨_, rfl⟩) dX1_fits_74 77 rfl hC.1 (coR_people hC) ?_
              refine x_iload C dX1_fits_77 79 rfl rfl ?_
              refine x_aaldr (t := 4) C dX1_fits_79 80 rfl (coA_people hC) (by decide) (coN_people hC) rfl (by omega) (by decide) (cp_elt hR hkp) ?_
              refine x_geti C fl_X1_211 (Or.inr (Or.inl rfl)) dX1_fits_80 83 rfl (cp_T hR hkp) (cp_low hR hkp) ?_
              refine x_ifeq C dX1_fits_83 86 93 rfl (by decide) (fun h83 => ?_) (fun h83 => ?_)
              · have hl2 : ¬ (¬ T 476 (lo (rs s)) = 0 ∧ T 487 (10 * t + r) = 0) := fun q => q.1 h83
                refine x_aloadr_n C dX1_fits_93 94 rfl rfl ?_
                refine x_getr C fl_X1_11 (Or.inr ⟨_, rfl⟩) dX1_fits_94 97 rfl hC.1 (coR_people hC) ?_
                refine x_iload_n C dX1_fits_97 98 rfl rfl ?_
                refine x_aaldr (t := 4) C dX1_fits_98 99 rfl (coA_people hC) (by decide) (coN_people hC) rfl (by omega) (by decide) (cp_elt hR hlp) ?_
                refine x_aloadr_n C dX1_fits_99 100 rfl rfl ?_
                refine x_getr C fl_X1_11 (Or.inr ⟨_, rfl⟩) dX1_fits_100 103 rfl hC.1 (coR_people hC) ?_
                refine x_iload C dX1_fits_103 105 rfl rfl ?_
                refine x_aaldr (t := 4) C dX1_fits_105 106 rfl (coA_people hC) (by decide) (coN_people hC) rfl (by omega) (by decide) (cp_elt hR hkp) ?_
                refine x_callV C lk_X1_215 dX1_fits_106 109 rfl [_] [] rfl rfl (cp_T hR hlp) (Nat.le_of_ble_eq_true rfl) (by decide) (Nat.le_refl _) (Nat.le_refl _) (kX4_mayShare hR hI hF hlp hkp) ?_
                rintro _ _ _ _ ⟨rfl, rfl, rfl, rfl⟩
                refine x_ifeqZ C dX1_fits_109 112 116 rfl (by decide) (fun h109 => ?_) (fun h109 => ?_)
                · refine x_ic (j := 0) C dX1_fits_116 117 rfl ?_
                  exact x_zret C dX1_fits_117 (Nat.le_refl _) (Nat.le_refl _) rfl (Qz_of (by rw [if_neg hl2, h109]; rfl))
                · refine x_ic (j := 1) C dX1_fits_112 113 rfl ?_
                  refine x_goto C dX1_fits_113 117 (by decide) ?_
                  exact x_zret C dX1_fits_117 (Nat.le_refl _) (Nat.le_refl _) rfl (Qz_of (by rw [if_neg hl2, h109]; rfl))
              · refine x_aloadr_n C dX1_fits_86 87 rfl rfl ?_
                refine x_geti C fl_X1_214 (Or.inr (Or.inl rfl)) dX1_fits_87 90 rfl (cm_T hR ht hr) (cm_low hR ht hr) ?_
                refine x_ifeq C dX1_fits_90 93 116 rfl (by decide) (fun h90 => ?_) (fun h90 => ?_)
                · refine x_ic (j := 0) C dX1_fits_116 117 rfl ?_
                  exact x_zret C dX1_fits_117 (Nat.le_refl _) (Nat.le_refl _) rfl (Qz_of (by rw [if_pos ⟨h83, h90⟩]; rfl))
                · have hl2 : ¬ (¬ T 476 (lo (rs s)) = 0 ∧ T 487 (10 * t + r) = 0) := fun q => h90 q.2
                  refine x_aloadr_n C dX1_fits_93 94 rfl rfl ?_
                  refine x_getr C fl_X1_11 (Or.inr ⟨_, rfl⟩) dX1_fits_94 97 rfl hC.1 (coR_people hC) ?_
                  refine x_iload_n C dX1_fits_97 98 rfl rfl ?_
                  refine x_aaldr (t := 4) C dX1_fits_98 99 rfl (coA_people hC) (by decide) (coN_people hC) rfl (by omega) (by decide) (cp_elt hR hlp) ?_
                  refine x_aloadr_n C dX1_fits_99 100 rfl rfl ?_
                  refine x_getr C fl_X1_11 (Or.inr ⟨_, rfl⟩) dX1_fits_100 103 rfl hC.1 (coR_people hC) ?_
                  refine x_iload C dX1_fits_103 105 rfl rfl ?_
                  refine x_aaldr (t := 4) C dX1_fits_105 106 rfl (coA_people hC) (by decide) (coN_people hC) rfl (by omega) (by decide) (cp_elt hR hkp) ?_
                  refine x_callV C lk_X1_215 dX1_fits_106 109 rfl [_] [] rfl rfl (cp_T hR hlp) (Nat.le_of_ble_eq_true rfl) (by decide) (Nat.le_refl _) (Nat.le_refl _) (kX4_mayShare hR hI hF hlp hkp) ?_
                  rintro _ _ _ _ ⟨rfl, rfl, rfl, rfl⟩
                  refine x_ifeqZ C dX1_fits_109 112 116 rfl (by decide) (fun h109 => ?_) (fun h109 => ?_)
                  · refine x_ic (j := 0) C dX1_fits_116 117 rfl ?_
                    exact x_zret C dX1_fits_117 (Nat.le_refl _) (Nat.le_refl _) rfl (Qz_of (by rw [if_neg hl2, h109]; rfl))
                  · refine x_ic (j := 1) C dX1_fits_112 113 rfl ?_
                    refine x_goto C dX1_fits_113 117 (by decide) ?_
                    exact x_zret C dX1_fits_117 (Nat.le_refl _) (Nat.le_refl _) rfl (Qz_of (by rw [if_neg hl2, h109]; rfl))
            · refine x_ic (j := 1) C dX1_fits_64 65 rfl ?_
              exact x_zret C dX1_fits_65 (Nat.le_refl _) (Nat.le_refl _) rfl (Qz_of (by unfold fitB; rw [if_neg h1, if_neg hfir, if_neg hlow, if_pos h61]; rfl))
          · refine x_ic (j := 0) C dX1_fits_57 58 rfl ?_
            exact x_zret C dX1_fits_58 (Nat.le_refl _) (Nat.le_refl _) rfl (Qz_of (by unfold fitB; rw [if_neg h1, if_neg hfir, if_pos ⟨h47, h54⟩]; rfl))
      · refine x_ic (j := 0) C dX1_fits_24 25 rfl ?_
        exact x_zret C dX1_fits_25 (Nat.le_refl _) (Nat.le_refl _) rfl (Qz_of (by unfold fitB; rw [if_neg h1, if_pos (Or.inr (by rw [hb, nI_ltI (by omega) (by omega)]; exact h21))]; rfl))
  · refine x_ic (j := 1) C dX1_fits_4 5 rfl ?_
    exact x_zret C dX1_fits_5 (Nat.le_refl _) (Nat.le_refl _) rfl (Qz_of (by unfold fitB; rw [if_pos h1]; rfl))
theorem kX1_joins (hR : CoR K S I T) (hI : Tok T) (hF : FrOk T) {t r s q : Nat} (ht : t < tn T) (hr : r < rn T t) (hs : s < 2 ^ pn T) (hq : q < pn T) (hbe : bedsOk T t) : Ct w l yX1_joins cX1_joins 4 (some .boolean) 2 0 0 [.ref 0, .ref (ra K t r), .int (nI s), .int (nI q)] S I J (Qe (some (.int (bz (jnB T (10 * t + r) s q)))) S I J) := by
  obtain ⟨m, hm, hb⟩ := hbe r hr
  have hs10 : s < 1024 := Nat.lt_of_lt_of_le hs (Nat.pow_le_pow_right (by decide) (tk_p2 hI))
  have hcl := cnt_le s.testBit 10
  refine Ct.of [some _, some _, some _, some _] rfl (Nat.le_of_ble_eq_true rfl) (by decide) ?_
  intro κ hκ C
  subst hκ
  have hC := cr_S hR
  have hp10 := tk_p2 hI
  have ht6 := tk_t2 hI
  have hg30 := tk_g2 hI
  have hc30 := tk_c2 hI
  have hn500 := tk_n2 hI
  refine x_aloadr_n C dX1_joins_0 1 rfl rfl ?_
  refine x_geti C fl_X1_196 (Or.inr (Or.inl rfl)) dX1_joins_1 4 rfl (cm_T hR ht hr) (cm_held hR ht hr) ?_
  refine x_ifeq C dX1_joins_4 7 37 rfl (by decide) (fun h4 => ?_) (fun h4 => ?_)
  · refine x_ic (j := 0) C dX1_joins_37 38 rfl ?_
    exact x_zret C dX1_joins_38 (Nat.le_refl _) (Nat.le_refl _) rfl (Qz_of (by unfold jnB; simp only [h4, decide_true, decide_false, Bool.false_and, Bool.and_false, Bool.true_and, Bool.and_true, Bool.not_true, Bool.not_false, Bool.or_true, Bool.true_or, Bool.or_false, Bool.false_or, bzt, bzf]))
  · refine x_iload_n C dX1_joins_7 8 rfl rfl ?_
    refine x_callS C lk_X1_199 dX1_joins_8 11 rfl [_] [] rfl rfl (Nat.le_of_ble_eq_true rfl) (by decide) (Nat.le_refl _) (Nat.le_refl _) (kJ3_bitCount hs10) ?_
    rintro _ _ _ _ ⟨rfl, rfl, rfl, rfl⟩
    refine x_aloadr_n C dX1_joins_11 12 rfl rfl ?_
    refine x_geti C fl_X1_205 (Or.inl rfl) dX1_joins_12 15 rfl (cm_T hR ht hr) ((cm_beds hR ht hr).trans hb) ?_
    refine x_icmpgeN C dX1_joins_15 18 37 rfl (by decide) (by omega) (by omega) (fun h15 => ?_) (fun h15 => ?_)
    · have e15 : ¬ nI (cnt s.testBit 10) < T 486 (10 * t + r) := by { rw [hb, nI_ltI (by omega) (by omega)]; exact h15 }
      refine x_ic (j := 0) C dX1_joins_37 38 rfl ?_
      exact x_zret C dX1_joins_38 (Nat.le_refl _) (Nat.le_refl _) rfl (Qz_of (by unfold jnB; simp only [h4, e15, decide_true, decide_false, Bool.false_and, Bool.and_false, Bool.true_and, Bool.and_true, Bool.not_true, Bool.not_false, Bool.or_true, Bool.true_or, Bool.or_false, Bool.false_or, bzt, bzf]))
    · have e15 : nI (cnt s.testBit 10) < T 486 (10 * t + r) := by { rw [hb, nI_ltI (by omega) (by omega)]; exact h15 }
      refine x_aloadr_n C dX1_joins_18 19 rfl rfl ?_
      refine x_getr C fl_X1_11 (Or.inr ⟨_, rfl⟩) dX1_joins_19 22 rfl hC.1 (coR_people hC) ?_
      refine x_iload_n C dX1_joins_22 23 rfl rfl ?_
      refine x_aaldr (t := 4) C dX1_joins_23 24 rfl (coA_people hC) (by decide) (coN_people hC) rfl (by omega) (by decide) (cp_elt hR hq) ?_
      refine x_geti C fl_X1_211 (Or.inr (Or.inl rfl)) dX1_joins_24 27 rfl (cp_T hR hq) (cp_low hR hq) ?_
      refine x_ifeq C dX1_joins_27 30 39 rfl (by decide) (fun h27 => ?_) (fun h27 => ?_)
      · refine x_iload_n C dX1_joins_39 40 rfl rfl ?_
        refine x_ifeqN C dX1_joins_40 43 64 rfl (by decide) (by omega) (fun h40 => ?_) (fun h40 => ?_)
        · have e40 := eq_true h40
          refine x_ic (j := 1) C dX1_joins_64 65 rfl ?_
          refine x_goto C dX1_joins_65 69 (by decide) ?_
          exact x_zret C dX1_joins_69 (Nat.le_refl _) (Nat.le_refl _) rfl (Qz_of (by unfold jnB; simp only [h4, e15, h27, e40, decide_true, decide_false, Bool.false_and, Bool.and_false, Bool.true_and, Bool.and_true, Bool.not_true, Bool.not_false, Bool.or_true, Bool.true_or, Bool.or_false, Bool.false_or, bzt, bzf]))
        · obtain ⟨l1, l2, l3⟩ := lo_spec hs10 h40
          have hlp := bit_lt_n hs l2
          refine x_aloadr_n C dX1_joins_43 44 rfl rfl ?_
          refine x_getr C fl_X1_11 (Or.inr ⟨_, rfl⟩) dX1_joins_44 47 rfl hC.1 (coR_people hC) ?_
          refine x_iload_n C dX1_joins_47 48 rfl rfl ?_
          refine x_aaldr (t := 4) C dX1_joins_48 49 rfl (coA_people hC) (by decide) (coN_people hC) rfl (by omega) (by decide) (cp_elt hR hq) ?_
          refine x_aloadr_n C dX1_joins_49 50 rfl rfl ?_
          refine x_getr C fl_X1_11 (Or.inr ⟨_, rfl⟩) dX1_joins_50 53 rfl hC.1 (coR_people hC) ?_
          refine x_iload_n C dX1_joins_53 54 rfl rfl ?_
          refine x_callS C lk_X1_208 dX1_joins_54 57 rfl [_] [_, _] rfl rfl (Nat.le_of_ble_eq_true rfl) (by decide) (Nat.le_refl _) (Nat.le_refl _) (kJ3_numberOfTrailingZeros hs10 h40) ?_
          rintro _ _ _ _ ⟨rfl, rfl, rfl, rfl⟩
          refine x_aaldr (t := 4) C dX1_joins_57 58 rfl (coA_people hC) (by decide) (coN_people hC) rfl (by omega) (by decide) (cp_elt hR hlp) ?_
          refine x_callV C lk_X1_215 dX1_joins_58 61 rfl [_] [] rfl rfl (cp_T hR hq) (Nat.le_of_ble_eq_true rfl) (by decide) (Nat.le_refl _) (Nat.le_refl _) (kX4_mayShare hR hI hF hq hlp) ?_
          rintro _ _ _ _ ⟨rfl, rfl, rfl, rfl⟩
          refine x_ifeqZ C dX1_joins_61 64 68 rfl (by decide) (fun h61 => ?_) (fun h61 => ?_)
          · refine x_ic (j := 0) C dX1_joins_68 69 rfl ?_
            exact x_zret C dX1_joins_69 (Nat.le_refl _) (Nat.le_refl _) rfl (Qz_of (by unfold jnB; simp only [h4, e15, h27, h40, h61, decide_true, decide_false, Bool.false_and, Bool.and_false, Bool.true_and, Bool.and_true, Bool.not_true, Bool.not_false, Bool.or_true, Bool.true_or, Bool.or_false, Bool.false_or, bzt, bzf]))
          · refine x_ic (j := 1) C dX1_joins_64 65 rfl ?_
            refine x_goto C dX1_joins_65 69 (by decide) ?_
            exact x_zret C dX1_joins_69 (Nat.le_refl _) (Nat.le_refl _) rfl (Qz_of (by unfold jnB; simp only [h4, e15, h27, h40, h61, decide_true, decide_false, Bool.false_and, Bool.and_false, Bool.true_and, Bool.and_true, Bool.not_true, Bool.not_false, Bool.or_true, Bool.true_or, Bool.or_false, Bool.false_or, bzt, bzf]))
      · refine x_aloadr_n C dX1_joins_30 31 rfl rfl ?_
        refine x_geti C fl_X1_214 (Or.inr (Or.inl rfl)) dX1_joins_31 34 rfl (cm_T hR ht hr) (cm_low hR ht hr) ?_
        refine x_ifne C dX1_joins_34 37 39 rfl (by decide) (fun h34 => ?_) (fun h34 => ?_)
        · refine x_iload_n C dX1_joins_39 40 rfl rfl ?_
          refine x_ifeqN C dX1_joins_40 43 64 rfl (by decide) (by omega) (fun h40 => ?_) (fun h40 => ?_)
          · have e40 := eq_true h40
            refine x_ic (j := 1) C dX1_joins_64 65 rfl ?_
            refine x_goto C dX1_joins_65 69 (by decide) ?_
            exact x_zret C dX1_joins_69 (Nat.le_refl _) (Nat.le_refl _) rfl (Qz_of (by unfold jnB; simp only [h4, e15, h27, h34, e40, decide_true, decide_false, Bool.false_and, Bool.and_false, Bool.true_and, Bool.and_true, Bool.not_true, Bool.not_false, Bool.or_true, Bool.true_or, Bool.or_false, Bool.false_or, bzt, bzf]))
          · obtain ⟨l1, l2, l3⟩ := lo_spec hs10 h40
            have hlp := bit_lt_n hs l2
            refine x_aloadr_n C dX1_joins_43 44 rfl rfl ?_
            refine x_getr C fl_X1_11 (Or.inr ⟨_, rfl⟩) dX1_joins_44 47 rfl hC.1 (coR_people hC) ?_
            refine x_iload_n C dX1_joins_47 48 rfl rfl ?_
            refine x_aaldr (t := 4) C dX1_joins_48 49 rfl (coA_people hC) (by decide) (coN_people hC) rfl (by omega) (by decide) (cp_elt hR hq) ?_
            refine x_aloadr_n C dX1_joins_49 50 rfl rfl ?_
            refine x_getr C fl_X1_11 (Or.inr ⟨_, rfl⟩) dX1_joins_50 53 rfl hC.1 (coR_people hC) ?_
            refine x_iload_n C dX1_joins_53 54 rfl rfl ?_
            refine x_callS C lk_X1_208 dX1_joins_54 57 rfl [_] [_, _] rfl rfl (Nat.le_of_ble_eq_true rfl) (by decide) (Nat.le_refl _) (Nat.le_refl _) (kJ3_numberOfTrailingZeros hs10 h40) ?_
            rintro _ _ _ _ ⟨rfl, rfl, rfl, rfl⟩
            refine x_aaldr (t := 4) C dX1_joins_57 58 rfl (coA_people hC) (by decide) (coN_people hC) rfl (by omega) (by decide) (cp_elt hR hlp) ?_
            refine x_callV C lk_X1_215 dX1_joins_58 61 rfl [_] [] rfl rfl (cp_T hR hq) (Nat.le_of_ble_eq_true rfl) (by decide) (Nat.le_refl _) (Nat.le_refl _) (kX4_mayShare hR hI hF hq hlp) ?_
            rintro _ _ _ _ ⟨rfl, rfl, rfl, rfl⟩
            refine x_ifeqZ C dX1_joins_61 64 68 rfl (by decide) (fun h61 => ?_) (fun h61 => ?_)
            · refine x_ic (j := 0) C dX1_joins_68 69 rfl ?_
              exact x_zret C dX1_joins_69 (Nat.le_refl _) (Nat.le_refl _) rfl (Qz_of (by unfold jnB; simp only [h4, e15, h27, h34, h40, h61, decide_true, decide_false, Bool.false_and, Bool.and_false, Bool.true_and, Bool.and_true, Bool.not_true, Bool.not_false, Bool.or_true, Bool.true_or, Bool.or_false, Bool.false_or, bzt, bzf]))
            · refine x_ic (j := 1) C dX1_joins_64 65 rfl ?_
              refine x_goto C dX1_joins_65 69 (by decide) ?_
              exact x_zret C dX1_joins_69 (Nat.le_refl _) (Nat.le_refl _) rfl (Qz_of (by unfold jnB; simp only [h4, e15, h27, h34, h40, h61, decide_true, decide_false, Bool.false_and, Bool.and_false, Bool.true_and, Bool.and_true, Bool.not_true, Bool.not_false, Bool.or_true, Bool.true_or, Bool.or_false, Bool.false_or, bzt, bzf]))
        · refine x_ic (j := 0) C dX1_joins_37 38 rfl ?_
          exact x_zret C dX1_joins_38 (Nat.le_refl _) (Nat.le_refl _) rfl (Qz_of (by unfold jnB; simp only [h4, e15, h27, h34, decide_true, decide_false, Bool.false_and, Bool.and_false, Bool.true_and, Bool.and_true, Bool.not_true, Bool.not_false, Bool.or_true, Bool.true_or, Bool.or_false, Bool.false_or, bzt, bzf]))
end Co3
