/-! the twin: what holds of the numbers in its memory; more of its methods -/
abbrev pn (I : Mi) : Nat := nt (I 473 1)
abbrev tn (I : Mi) : Nat := nt (I 473 11)
abbrev gn (I : Mi) : Nat := nt (I 473 12)
abbrev cl (I : Mi) : Nat := nt (I 473 13)
abbrev nn (I : Mi) : Nat := nt (I 473 26)
abbrev rn (I : Mi) (t : Nat) : Nat := nt (I 485 t)
abbrev dn (I : Mi) : Nat := nt (I 473 41)
abbrev sn (I : Mi) : Nat := nt (I 473 63)
def nOk (x : Int32) (b : Nat) : Prop := x = nI (nt x) ∧ nt x ≤ b
theorem nOk_of {x : Int32} {b n : Nat} (h : x = nI n) (hn : n ≤ b) (hb : b < 2 ^ 31) : nOk x b := by
  subst h
  have e : nt (nI n) = n := nt_nI (by omega)
  exact ⟨by rw [e], by rw [e]; exact hn⟩
def Tok (I : Mi) : Prop := nOk (I 473 1) 10 ∧ nOk (I 473 11) 6 ∧ nOk (I 473 12) 30 ∧ nOk (I 473 13) 30 ∧ nOk (I 473 26) 500 ∧ (∀ t, t < 6 → nOk (I 485 t) 10) ∧ nOk (I 473 41) 400 ∧ nOk (I 473 63) 6
section
variable {I : Mi}
theorem tk_p (h : Tok I) : I 473 1 = nI (pn I) := h.1.1
theorem tk_p2 (h : Tok I) : pn I ≤ 10 := h.1.2
theorem tk_t (h : Tok I) : I 473 11 = nI (tn I) := h.2.1.1
theorem tk_t2 (h : Tok I) : tn I ≤ 6 := h.2.1.2
theorem tk_g (h : Tok I) : I 473 12 = nI (gn I) := h.2.2.1.1
theorem tk_g2 (h : Tok I) : gn I ≤ 30 := h.2.2.1.2
theorem tk_c (h : Tok I) : I 473 13 = nI (cl I) := h.2.2.2.1.1
theorem tk_c2 (h : Tok I) : cl I ≤ 30 := h.2.2.2.1.2
theorem tk_n (h : Tok I) : I 473 26 = nI (nn I) := h.2.2.2.2.1.1
theorem tk_n2 (h : Tok I) : nn I ≤ 500 := h.2.2.2.2.1.2
theorem tk_r (h : Tok I) {t : Nat} (ht : t < 6) : I 485 t = nI (rn I t) := (h.2.2.2.2.2.1 t ht).1
theorem tk_r2 (h : Tok I) {t : Nat} (ht : t < 6) : rn I t ≤ 10 := (h.2.2.2.2.2.1 t ht).2
theorem tk_d (h : Tok I) : I 473 41 = nI (dn I) := h.2.2.2.2.2.2.1.1
theorem tk_d2 (h : Tok I) : dn I ≤ 400 := h.2.2.2.2.2.2.1.2
theorem tk_s (h : Tok I) : I 473 63 = nI (sn I) := h.2.2.2.2.2.2.2.1
theorem tk_s2 (h : Tok I) : sn I ≤ 6 := h.2.2.2.2.2.2.2.2
theorem pe_I (h : Tok I) {p : Int32} (hp : peB I p = true) : ∃ j : Nat, j < pn I ∧ p = nI j := pe_of (tk_p h) (tk_p2 h) hp
theorem to_I (h : Tok I) {t : Int32} (ht : toB I t = true) : ∃ j : Nat, j < tn I ∧ t = nI j := to_of (tk_t h) (tk_t2 h) ht
theorem op_to {t : Int32} (h : opB I t = true) : toB I t = true := by
  unfold opB at h
  simp at h
  exact h.1
end
theorem sp_leaves_f {I : Mi} {p : Nat} {fr tt : Int32} {m : Nat} (h : (sp_leaves I p fr tt m).1 = false) : (sp_leaves I p fr tt m).2 = I := by
  unfold sp_leaves at h ⊢
  by_cases hc : nt (I 473 26) + cnt (lvP I p fr tt) m ≤ 500
  · rw [if_pos hc] at h
    cases h
  · rw [if_neg hc]
def sp_stays (I : Mi) (p fr tt : Int32) : Int32 × Mi :=
  if peB I p && decide (I 480 (nt p) = 0) && inB fr (nI 0) (nI 5) && inB tt fr (nI 5) && (sp_leaves I (nt p) fr tt (tn I)).1 then
    (nI 1, sto (sto (sp_leaves I (nt p) fr tt (tn I)).2 478 (nt p) fr) 479 (nt p) tt)
  else no0 I
def goneS (M : Mi) (p : Nat) : Mi := sto (if M 481 p = -1 then sto M 480 p (nI 1) else sto (sto M 480 p (nI 1)) 481 (nt (M 481 p)) (-1)) 481 p (-1)
def sp_gone (I : Mi) (p : Int32) : Int32 × Mi :=
  if peB I p && decide (I 480 (nt p) = 0) && (sp_leaves I (nt p) (nI 1) (nI 0) (tn I)).1 then (nI 1, goneS (sp_leaves I (nt p) (nI 1) (nI 0) (tn I)).2 (nt p)) else no0 I
theorem lv_row {I : Mi} {p : Nat} {fr tt : Int32} {m : Nat} {a : Nat} (h : a ≠ 473 ∧ a ≠ 490 ∧ a ≠ 491 ∧ a ≠ 492 ∧ a ≠ 493) : (sp_leaves I p fr tt m).2 a = I a := by
  unfold sp_leaves
  split
  · exact lvS_row I p fr tt h m
  · rfl
section Tw5
variable {w : Wd} {l : Launch} {S : Sh} {I : Mi} {J : Ml}
theorem kX3_stays (hS : twS S) (hI : Tok I) {p fr tt : Int32} : Ct w l yX3_stays cX3_stays 4 (some .boolean) 3 0 0 [.ref 473, .int p, .int fr, .int tt] S I J (Qm (sp_stays I p fr tt) S J) := by
  refine Ct.of [some _, some _, some _, some _] rfl (Nat.le_of_ble_eq_true rfl) (by decide) ?_
  intro κ hκ C
  subst hκ
  have hp10 := tk_p2 hI
  have ht6 := tk_t2 hI
  have hg30 := tk_g2 hI
  have hc30 := tk_c2 hI
  have hn500 := tk_n2 hI
  refine x_aloadr_n C dX3_stays_0 1 rfl rfl ?_
  refine x_iload_n C dX3_stays_1 2 rfl rfl ?_
  refine x_callV C lk_X3_177 dX3_stays_2 5 rfl [_] [] rfl rfl hS.1 (Nat.le_of_ble_eq_true rfl) (by decide) (Nat.le_refl _) (Nat.le_refl _) (kX3_isPerson hS) ?_
  rintro _ _ _ _ ⟨rfl, rfl, rfl, rfl⟩
  refine x_ifeqZ C dX3_stays_5 8 45 rfl (by decide) (fun h5 => ?_) (fun h5 => ?_)
  · refine x_ic (j := 0) C dX3_stays_45 46 rfl ?_
    exact x_zret C dX3_stays_46 (Nat.le_refl _) (Nat.le_refl _) rfl (Qm_of (by simp [sp_stays, no0, h5]))
  · obtain ⟨p, hp, rfl⟩ := pe_I hI h5
    have ep : nt (nI p) = p := nt_nI (by omega)
    refine x_aloadr_n C dX3_stays_8 9 rfl rfl ?_
    refine x_getr C fl_X3_33 (Or.inr ⟨_, rfl⟩) dX3_stays_9 12 rfl hS.1 (twR_isGone hS) ?_
    refine x_iload_n C dX3_stays_12 13 rfl rfl ?_
    refine x_zald C dX3_stays_13 14 rfl (twA_isGone hS) (twN_isGone hS) rfl (by omega) (by decide) rfl ?_
    refine x_ifne C dX3_stays_14 17 45 rfl (by decide) (fun h14 => ?_) (fun h14 => ?_)
    · refine x_ic (j := 0) C dX3_stays_45 46 rfl ?_
      exact x_zret C dX3_stays_46 (Nat.le_refl _) (Nat.le_refl _) rfl (Qm_of (by simp [sp_stays, no0, ep, h5, h14]))
    · refine x_iload_n C dX3_stays_17 18 rfl rfl ?_
      refine x_ic (j := 0) C dX3_stays_18 19 rfl ?_
      refine x_ic (j := 5) C dX3_stays_19 20 rfl ?_
      refine x_callS C lk_X3_160 dX3_stays_20 23 rfl [_, _, _] [] rfl rfl (Nat.le_of_ble_eq_true rfl) (by decide) (Nat.le_refl _) (Nat.le_refl _) kX3_in ?_
      rintro _ _ _ _ ⟨rfl, rfl, rfl, rfl⟩
      refine x_ifeqZ C dX3_stays_23 26 45 rfl (by decide) (fun h23 => ?_) (fun h23 => ?_)
      · refine x_ic (j := 0) C dX3_stays_45 46 rfl ?_
        exact x_zret C dX3_stays_46 (Nat.le_refl _) (Nat.le_refl _) rfl (Qm_of (by simp [sp_stays, no0, ep, h5, h14, h23]))
      · refine x_iload_n C dX3_stays_26 27 rfl rfl ?_
        refine x_iload_n C dX3_stays_27 28 rfl rfl ?_
        refine x_ic (j := 5) C dX3_stays_28 29 rfl ?_
        refine x_callS C lk_X3_160 dX3_stays_29 32 rfl [_, _, _] [] rfl rfl (Nat.le_of_ble_eq_true rfl) (by decide) (Nat.le_refl _) (Nat.le_refl _) kX3_in ?_
        rintro _ _ _ _ ⟨rfl, rfl, rfl, rfl⟩
        refine x_ifeqZ C dX3_stays_32 35 45 rfl (by decide) (fun h32 => ?_) (fun h32 => ?_)
        · refine x_ic (j := 0) C dX3_stays_45 46 rfl ?_
          exact x_zret C dX3_stays_46 (Nat.le_refl _) (Nat.le_refl _) rfl (Qm_of (by simp [sp_stays, no0, ep, h5, h14, h23, h32]))
        · refine x_aloadr_n C dX3_stays_35 36 rfl rfl ?_
          refine x_iload_n C dX3_stays_36 37 rfl rfl ?_
          refine x_iload_n C dX3_stays_37 38 rfl rfl ?_
          refine x_iload_n C dX3_stays_38 39 rfl rfl ?_
          refine x_callV C lk_X3_189 dX3_stays_39 42 rfl [_, _, _] [] rfl rfl hS.1 (Nat.le_of_ble_eq_true rfl) (by decide) (Nat.le_refl _) (Nat.le_refl _) (kX3_leaves hS (tk_t hI) (tk_t2 hI) (by omega) (tk_n hI) (tk_n2 hI)) ?_
          rintro _ _ _ _ ⟨rfl, rfl, rfl, rfl⟩
          refine x_ifneZ C dX3_stays_42 45 47 rfl (by decide) (fun h42 => ?_) (fun h42 => ?_)
          · refine x_aloadr_n C dX3_stays_47 48 rfl rfl ?_
            refine x_getr C fl_X3_27 (Or.inr ⟨_, rfl⟩) dX3_stays_48 51 rfl hS.1 (twR_from hS) ?_
            refine x_iload_n C dX3_stays_51 52 rfl rfl ?_
            refine x_iload_n C dX3_stays_52 53 rfl rfl ?_
            refine x_iast C dX3_stays_53 54 rfl (twA_from hS) (twN_from hS) rfl (by omega) (by decide) ?_
            refine x_aloadr_n C dX3_stays_54 55 rfl rfl ?_
            refine x_getr C fl_X3_30 (Or.inr ⟨_, rfl⟩) dX3_stays_55 58 rfl hS.1 (twR_to hS) ?_
            refine x_iload_n C dX3_stays_58 59 rfl rfl ?_
            refine x_iload_n C dX3_stays_59 60 rfl rfl ?_
            refine x_iast C dX3_stays_60 61 rfl (twA_to hS) (twN_to hS) rfl (by omega) (by decide) ?_
            refine x_ic (j := 1) C dX3_stays_61 62 rfl ?_
            exact x_zret C dX3_stays_62 (Nat.le_refl _) (Nat.le_refl _) rfl (Qm_of (by simp [sp_stays, no0, ep, h5, h14, h23, h32, h42]))
          · have e42 := sp_leaves_f h42
            refine x_ic (j := 0) C dX3_stays_45 46 rfl ?_
            exact x_zret C dX3_stays_46 (Nat.le_refl _) (Nat.le_refl _) rfl (Qm_of (by simp [sp_stays, no0, ep, h5, h14, h23, h32, h42, e42]))
theorem kX3_gone (hS : twS S) (hI : Tok I) (hf : ∀ p, p < pn I → I 481 p = -1 ∨ ∃ j, j < 10 ∧ I 481 p = nI j) {p : Int32} : Ct w l yX3_gone cX3_gone 2 (some .boolean) 3 0 0 [.ref 473, .int p] S I J (Qm (sp_gone I p) S J) := by
  refine Ct.of [some _, some _] rfl (Nat.le_of_ble_eq_true rfl) (by decide) ?_
  intro κ hκ C
  subst hκ
  have hp10 := tk_p2 hI
  have ht6 := tk_t2 hI
  have hg30 := tk_g2 hI
  have hc30 := tk_c2 hI
  have hn500 := tk_n2 hI
  refine x_aloadr_n C dX3_gone_0 1 rfl rfl ?_
  refine x_iload_n C dX3_gone_1 2 rfl rfl ?_
  refine x_callV C lk_X3_177 dX3_gone_2 5 rfl [_] [] rfl rfl hS.1 (Nat.le_of_ble_eq_true rfl) (by decide) (Nat.le_refl _) (Nat.le_refl _) (kX3_isPerson hS) ?_
  rintro _ _ _ _ ⟨rfl, rfl, rfl, rfl⟩
  refine x_ifeqZ C dX3_gone_5 8 27 rfl (by decide) (fun h5 => ?_) (fun h5 => ?_)
  · refine x_ic (j := 0) C dX3_gone_27 28 rfl ?_
    exact x_zret C dX3_gone_28 (Nat.le_refl _) (Nat.le_refl _) rfl (Qm_of (by simp [sp_gone, no0, h5]))
  · obtain ⟨p, hp, rfl⟩ := pe_I hI h5
    have ep : nt (nI p) = p := nt_nI (by omega)
    refine x_aloadr_n C dX3_gone_8 9 rfl rfl ?_
    refine x_getr C fl_X3_33 (Or.inr ⟨_, rfl⟩) dX3_gone_9 12 rfl hS.1 (twR_isGone hS) ?_
    refine x_iload_n C dX3_gone_12 13 rfl rfl ?_
    refine x_zald C dX3_gone_13 14 rfl (twA_isGone hS) (twN_isGone hS) rfl (by omega) (by decide) rfl ?_
    refine x_ifne C dX3_gone_14 17 27 rfl (by decide) (fun h14 => ?_) (fun h14 => ?_)
    · refine x_ic (j := 0) C dX3_gone_27 28 rfl ?_
      exact x_zret C dX3_gone_28 (Nat.le_refl _) (Nat.le_refl _) rfl (Qm_of (by simp [sp_gone, no0, ep, h5, h14]))
    · refine x_aloadr_n C dX3_gone_17 18 rfl rfl ?_
      refine x_iload_n C dX3_gone_18 19 rfl rfl ?_
      refine x_ic (j := 1) C dX3_gone_19 20 rfl ?_
      refine x_ic (j := 0) C dX3_gone_20 21 rfl ?_
      refine x_callV C lk_X3_189 dX3_gone_21 24 rfl [_, _, _] [] rfl rfl hS.1 (Nat.le_of_ble_eq_true rfl) (by decide) (Nat.le_refl _) (Nat.le_refl _) (kX3_leaves hS (tk_t hI) (tk_t2 hI) (by omega) (tk_n hI) (tk_n2 hI)) ?_
      rintro _ _ _ _ ⟨rfl, rfl, rfl, rfl⟩
      refine x_ifneZ C dX3_gone_24 27 29 rfl (by decide) (fun h24 => ?_) (fun h24 => ?_)
      · have er : (sp_leaves I p (nI 1) (nI 0) (tn I)).2 481 p = I 481 p := by rw [lv_row (by decide)]
        refine x_aloadr_n C dX3_gone_29 30 rfl rfl ?_
        refine x_getr C fl_X3_33 (Or.inr ⟨_, rfl⟩) dX3_gone_30 33 rfl hS.1 (twR_isGone hS) ?_
        refine x_iload_n C dX3_gone_33 34 rfl rfl ?_
        refine x_ic (j := 1) C dX3_gone_34 35 rfl ?_
        refine x_zast C dX3_gone_35 36 rfl (twA_isGone hS) (twN_isGone hS) rfl (by omega) (by decide) rfl ?_
        refine x_aloadr_n C dX3_gone_36 37 rfl rfl ?_
        refine x_getr C fl_X3_36 (Or.inr ⟨_, rfl⟩) dX3_gone_37 40 rfl hS.1 (twR_friend hS) ?_
        refine x_iload_n C dX3_gone_40 41 rfl rfl ?_
        refine x_iald C dX3_gone_41 42 rfl (twA_friend hS) (twN_friend hS) rfl (by omega) (by decide) er ?_
        refine x_icm C dX3_gone_42 43 rfl ?_
        refine x_icmpeq C dX3_gone_43 46 58 rfl (by decide) (fun h43 => ?_) (fun h43 => ?_)
        · refine x_aloadr_n C dX3_gone_58 59 rfl rfl ?_
          refine x_getr C fl_X3_36 (Or.inr ⟨_, rfl⟩) dX3_gone_59 62 rfl hS.1 (twR_friend hS) ?_
          refine x_iload_n C dX3_gone_62 63 rfl rfl ?_
          refine x_icm C dX3_gone_63 64 rfl ?_
          refine x_iast C dX3_gone_64 65 rfl (twA_friend hS) (twN_friend hS) rfl (by omega) (by decide) ?_
          refine x_ic (j := 1) C dX3_gone_65 66 rfl ?_
          exact x_zret C dX3_gone_66 (Nat.le_refl _) (Nat.le_refl _) rfl (Qm_of (by simp [sp_gone, goneS, ep, er, h5, h14, h24, h43]))
        · obtain ⟨j, hj, ej⟩ := (hf p hp).resolve_left h43
          have e3 : nt (I 481 p) = j := nt_of ej (by omega)
          refine x_aloadr_n C dX3_gone_46 47 rfl rfl ?_
          refine x_getr C fl_X3_36 (Or.inr ⟨_, rfl⟩) dX3_gone_47 50 rfl hS.1 (twR_friend hS) ?_
          refine x_aloadr_n C dX3_gone_50 51 rfl rfl ?_
          refine x_getr C fl_X3_36 (Or.inr ⟨_, rfl⟩) dX3_gone_51 54 rfl hS.1 (twR_friend hS) ?_
          refine x_iload_n C dX3_gone_54 55 rfl rfl ?_
          refine x_iald C dX3_gone_55 56 rfl (twA_friend hS) (twN_friend hS) rfl (by omega) (by decide) (er.trans ej) ?_
          refine x_icm C dX3_gone_56 57 rfl ?_
          refine x_iast C dX3_gone_57 58 rfl (twA_friend hS) (twN_friend hS) rfl (by omega) (by decide) ?_
          refine x_aloadr_n C dX3_gone_58 59 rfl rfl ?_
          refine x_getr C fl_X3_36 (Or.inr ⟨_, rfl⟩) dX3_gone_59 62 rfl hS.1 (twR_friend hS) ?_
          refine x_iload_n C dX3_gone_62 63 rfl rfl ?_
          refine x_icm C dX3_gone_63 64 rfl ?_
          refine x_iast C dX3_gone_64 65 rfl (twA_friend hS) (twN_friend hS) rfl (by omega) (by decide) ?_
          refine x_ic (j := 1) C dX3_gone_65 66 rfl ?_
          exact x_zret C dX3_gone_66 (Nat.le_refl _) (Nat.le_refl _) rfl (Qm_of (by simp [sp_gone, goneS, ep, er, e3, h5, h14, h24, h43]))
      · have e24 := sp_leaves_f h24
        refine x_ic (j := 0) C dX3_gone_27 28 rfl ?_
        exact x_zret C dX3_gone_28 (Nat.le_refl _) (Nat.le_refl _) rfl (Qm_of (by simp [sp_gone, no0, ep, h5, h14, h24, e24]))
/-! who may be in a room together -/
end Tw5
def mb (I : Mi) (a s : Nat) : Nat → Option (Nat × Int32)
  | 0 => some (0, -1)
  | p + 1 => match mb I a s p with
    | none => none
    | some (n, one) => if s.testBit p then (if I 489 a = 0 ∨ (¬ I 476 p = 0 ∧ I 487 a = 0) ∨ nI n = I 486 a ∨ (n = 1 ∧ shB I (nt one) p = false) then none else some (n + 1, nI p)) else some (n, one)
def mbB (I : Mi) (a s n : Nat) : Bool := (mb I a s n).isSome
theorem mb_none {I : Mi} {a s p : Nat} (h : mb I a s p = none) {q : Nat} (hq : p ≤ q) : mb I a s q = none := by
  induction q with
  | zero => rw [← Nat.le_zero.mp hq]; exact h
  | succ q ih =>
    rcases Nat.lt_or_ge q p with h1 | h1
    · rw [← show p = q + 1 by omega]; exact h
    · unfold mb
      rw [ih h1]
theorem mb_one {I : Mi} {a s p n : Nat} {one : Int32} (h : mb I a s p = some (n, one)) : n ≤ p ∧ (n = 0 ∨ ∃ o, o < p ∧ one = nI o) := by
  induction p generalizing n one with
  | zero => cases h; exact ⟨Nat.le_refl _, Or.inl rfl⟩
  | succ p ih =>
    unfold mb at h
    split at h
    · cases h
    · rename_i n1 one1 h1
      obtain ⟨a1, a2⟩ := ih h1
      split at h
      · split at h
        · cases h
        · cases h
          exact ⟨by omega, Or.inr ⟨p, by omega, rfl⟩⟩
      · cases h
        refine ⟨by omega, ?_⟩
        rcases a2 with a2 | ⟨o, ho, e⟩
        · exact Or.inl a2
        · exact Or.inr ⟨o, by omega, e⟩
theorem mbB_f {I : Mi} {a s p n : Nat} (h : mb I a s p = none) (hp : p ≤ n) : mbB I a s n = false := by
  unfold mbB
  rw [mb_none h hp]
  rfl
theorem mb_no {I : Mi} {a s p n : Nat} {one : Int32} (h : mb I a s p = some (n, one)) (hb : bit s p = 0) : mb I a s (p + 1) = some (n, one) := by
  rw [mb, h]
  simp [(bit_0 s p).mp hb]
theorem mb_yes {I : Mi} {a s p n : Nat} {one : Int32} (h : mb I a s p = some (n, one)) (hb : ¬ bit s p = 0) : mb I a s (p + 1) = if I 489 a = 0 ∨ (¬ I 476 p = 0 ∧ I 487 a = 0) ∨ nI n = I 486 a ∨ (n = 1 ∧ shB I (nt one) p = false) then none else some (n + 1, nI p) := by
  have : s.testBit p = true := by
    cases e : s.testBit p with
    | true => rfl
    | false => exact absurd ((bit_0 s p).mpr e) hb
  rw [mb, h]
  simp [this]
section Tw5
variable {w : Wd} {l : Launch} {S : Sh} {I : Mi} {J : Ml}
theorem kX3_mayBe (hS : twS S) (hI : Tok I) {t r s : Nat} (ht : t < 6) (hr : r < 10) (hs : s < 2 ^ 31) : Ct w l yX3_mayBe cX3_mayBe 8 (some .boolean) 2 0 0 [.ref 473, .int (nI t), .int (nI r), .int (nI s)] S I J (Qe (some (.int (bz (mbB I (10 * t + r) s (pn I))))) S I J) := by
  refine Ct.of [some _, some _, some _, some _, none, none, none, none] rfl (Nat.le_of_ble_eq_true rfl) (by decide) ?_
  intro κ hκ C
  subst hκ
  have hp10 := tk_p2 hI
  have ht6 := tk_t2 hI
  have hg30 := tk_g2 hI
  have hc30 := tk_c2 hI
  have hn500 := tk_n2 hI
  refine x_bip (j := 10) C dX3_mayBe_0 2 rfl (by decide) ?_
  refine x_iload_n C dX3_mayBe_2 3 rfl rfl ?_
  refine x_imul C dX3_mayBe_3 4 rfl (pk_mul _ _) ?_
  refine x_iload_n C dX3_mayBe_4 5 rfl rfl ?_
  refine x_iadd C dX3_mayBe_5 6 rfl (nI_add _ _) ?_
  refine x_istore C dX3_mayBe_6 8 rfl [_, _, _, _, _, _, _, _] (by decide) rfl rfl ?_
  refine x_ic (j := 0) C dX3_mayBe_8 9 rfl ?_
  refine x_istore C dX3_mayBe_9 11 rfl [_, _, _, _, _, _, _, _] (by decide) rfl rfl ?_
  refine x_icm C dX3_mayBe_11 12 rfl ?_
  refine x_istore C dX3_mayBe_12 14 rfl [_, _, _, _, _, _, _, _] (by decide) rfl rfl ?_
  refine x_ic (j := 0) C dX3_mayBe_14 15 rfl ?_
  refine x_istore C dX3_mayBe_15 17 rfl [_, _, _, _, _, _, _, _] (by decide) rfl rfl ?_
  have hloop : ∀ (j p n : Nat) (one : Int32), p + j = pn I → mb I (10 * t + r) s p = some (n, one) → XX w κ (Zr w κ (Qe (some (.int (bz (mbB I (10 * t + r) s (pn I))))) S I J)) 0 0 17 [some (.ref 473), some (.int (nI t)), some (.int (nI r)), some (.int (nI s)), some (.int (nI (10 * t + r))), some (.int (nI n)), some (.int one), some (.int (nI p))] [] S I J := by
    intro j
    induction j with
    | zero =>
      intro p n one hp hm
      have hp : p = pn I := hp
      subst hp
      refine x_iload C dX3_mayBe_17 19 rfl rfl ?_
      refine x_aloadr_n C dX3_mayBe_19 20 rfl rfl ?_
      refine x_geti C fl_X3_157 (Or.inl rfl) dX3_mayBe_20 23 rfl hS.1 (tk_p (I := I) hI) ?_
      refine x_icmpgeN C dX3_mayBe_23 26 112 rfl (by decide) (by omega) (by omega) (fun _ => ?_) (fun h23 => absurd h23 (by omega))
      refine x_ic (j := 1) C dX3_mayBe_112 113 rfl ?_
      exact x_zret C dX3_mayBe_113 (Nat.le_refl _) (Nat.le_refl _) rfl ⟨b1 (by unfold mbB; rw [hm]; rfl), rfl, rfl, rfl⟩
    | succ j ih =>
      intro p n one hp hm
      obtain ⟨hn1, hn2⟩ := mb_one hm
      refine x_iload C dX3_mayBe_17 19 rfl rfl ?_
      refine x_aloadr_n C dX3_mayBe_19 20 rfl rfl ?_
      refine x_geti C fl_X3_157 (Or.inl rfl) dX3_mayBe_20 23 rfl hS.1 (tk_p (I := I) hI) ?_
      refine x_icmpgeN C dX3_mayBe_23 26 112 rfl (by decide) (by omega) (by omega) (fun h23 => absurd h23 (by omega)) (fun _ => ?_)
      refine x_iload_n C dX3_mayBe_26 27 rfl rfl ?_
      refine x_iload C dX3_mayBe_27 29 rfl rfl ?_
      refine x_ishr C dX3_mayBe_29 30 rfl (nI_shrp _ _ hs (by omega)) ?_
      refine x_ic (j := 1) C dX3_mayBe_30 31 rfl ?_
      refine x_iand C dX3_mayBe_31 32 rfl (nI_bit _ _) ?_
      refine x_ifneN C dX3_mayBe_32 35 38 rfl (by decide) (by have := bit_lt s p; omega) (fun h32 => ?_) (fun h32 => ?_)
      · refine x_aloadr_n C dX3_mayBe_38 39 rfl rfl ?_
        refine x_getr C fl_X3_63 (Or.inr ⟨_, rfl⟩) dX3_mayBe_39 42 rfl hS.1 (twR_held hS) ?_
        refine x_iload C dX3_mayBe_42 44 rfl rfl ?_
        refine x_zald C dX3_mayBe_44 45 rfl (twA_held hS) (twN_held hS) rfl (by omega) (by decide) rfl ?_
        refine x_ifeq C dX3_mayBe_45 48 97 rfl (by decide) (fun h45 => ?_) (fun h45 => ?_)
        · refine x_ic (j := 0) C dX3_mayBe_97 98 rfl ?_
          exact x_zret C dX3_mayBe_98 (Nat.le_refl _) (Nat.le_refl _) rfl ⟨b0 (mbB_f (p := p + 1) (by rw [mb_yes hm h32]; simp [h32, h45]) (by omega)), rfl, rfl, rfl⟩
        · refine x_aloadr_n C dX3_mayBe_48 49 rfl rfl ?_
          refine x_getr C fl_X3_21 (Or.inr ⟨_, rfl⟩) dX3_mayBe_49 52 rfl hS.1 (twR_low hS) ?_
          refine x_iload C dX3_mayBe_52 54 rfl rfl ?_
          refine x_zald C dX3_mayBe_54 55 rfl (twA_low hS) (twN_low hS) rfl (by omega) (by decide) rfl ?_
          refine x_ifeq C dX3_mayBe_55 58 68 rfl (by decide) (fun h55 => ?_) (fun h55 => ?_)
          · refine x_iload C dX3_mayBe_68 70 rfl rfl ?_
            refine x_aloadr_n C dX3_mayBe_70 71 rfl rfl ?_
            refine x_getr C fl_X3_54 (Or.inr ⟨_, rfl⟩) dX3_mayBe_71 74 rfl hS.1 (twR_beds hS) ?_
            refine x_iload C dX3_mayBe_74 76 rfl rfl ?_
            refine x_iald C dX3_mayBe_76 77 rfl (twA_beds hS) (twN_beds hS) rfl (by omega) (by decide) rfl ?_
            refine x_icmpeq C dX3_mayBe_77 80 97 rfl (by decide) (fun h77 => ?_) (fun h77 => ?_)
            · refine x_ic (j := 0) C dX3_mayBe_97 98 rfl ?_
              exact x_zret C dX3_mayBe_98 (Nat.le_refl _) (Nat.le_refl _) rfl ⟨b0 (mbB_f (p := p + 1) (by rw [mb_yes hm h32]; simp [h32, h45, h55, h77]) (by omega)), rfl, rfl, rfl⟩
            · refine x_iload C dX3_mayBe_80 82 rfl rfl ?_
              refine x_ic (j := 1) C dX3_mayBe_82 83 rfl ?_
              refine x_icmpneN C dX3_mayBe_83 86 99 rfl (by decide) (by omega) (by omega) (fun h83 => ?_) (fun h83 => ?_)
              · refine x_iload C dX3_mayBe_99 101 rfl rfl ?_
                refine x_istore C dX3_mayBe_101 103 rfl [_, _, _, _, _, _, _, _] (by decide) rfl rfl ?_
                refine x_iinc C dX3_mayBe_103 106 rfl [_, _, _, _, _, _, _, _] (nI_inc _) (by decide) rfl rfl rfl ?_
                refine x_iinc C dX3_mayBe_106 109 rfl [_, _, _, _, _, _, _, _] (nI_inc _) (by decide) rfl rfl rfl ?_
                refine x_goto C dX3_mayBe_109 17 (by decide) ?_
                exact ih (p + 1) _ _ (by omega) (by first | exact mb_no hm h32 | (rw [mb_yes hm h32]; simp [h32, h45, h55, h77, h83]))
              · obtain ⟨o, ho, eo⟩ := hn2.resolve_left (by omega)
                subst eo
                have eo : nt (nI o) = o := nt_nI (by omega)
                have h77' := h77
                rw [h83] at h77'
                refine x_aloadr_n C dX3_mayBe_86 87 rfl rfl ?_
                refine x_iload C dX3_mayBe_87 89 rfl rfl ?_
                refine x_iload C dX3_mayBe_89 91 rfl rfl ?_
                refine x_callV C lk_X3_201 dX3_mayBe_91 94 rfl [_, _] [] rfl rfl hS.1 (Nat.le_of_ble_eq_true rfl) (by decide) (Nat.le_refl _) (Nat.le_refl _) (kX3_mayShare hS (by omega) (by omega)) ?_
                rintro _ _ _ _ ⟨rfl, rfl, rfl, rfl⟩
                refine x_ifneZ C dX3_mayBe_94 97 99 rfl (by decide) (fun h94 => ?_) (fun h94 => ?_)
                · refine x_iload C dX3_mayBe_99 101 rfl rfl ?_
                  refine x_istore C dX3_mayBe_101 103 rfl [_, _, _, _, _, _, _, _] (by decide) rfl rfl ?_
                  refine x_iinc C dX3_mayBe_103 106 rfl [_, _, _, _, _, _, _, _] (nI_inc _) (by decide) rfl rfl rfl ?_
                  refine x_iinc C dX3_mayBe_106 109 rfl [_, _, _, _, _, _, _, _] (nI_inc _) (by decide) rfl rfl rfl ?_
                  refine x_goto C dX3_mayBe_109 17 (by decide) ?_
                  exact ih (p + 1) _ _ (by omega) (by first | exact mb_no hm h32 | (rw [mb_yes hm h32]; simp [h32, h45, h55, h77, h83, h77', eo, h94]))
                · refine x_ic (j := 0) C dX3_mayBe_97 98 rfl ?_
                  exact x_zret C dX3_mayBe_98 (Nat.le_refl _) (Nat.le_refl _) rfl ⟨b0 (mbB_f (p := p + 1) (by rw [mb_yes hm h32]; simp [h32, h45, h55, h77, h83, h77', eo, h94]) (by omega)), rfl, rfl, rfl⟩
          · refine x_aloadr_n C dX3_mayBe_58 59 rfl rfl ?_
            refine x_getr C fl_X3_57 (Or.inr ⟨_, rfl⟩) dX3_mayBe_59 62 rfl hS.1 (twR_lowRoom hS) ?_
            refine x_iload C dX3_mayBe_62 64 rfl rfl ?_
            refine x_zald C dX3_mayBe_64 65 rfl (twA_lowRoom hS) (twN_lowRoom hS) rfl (by omega) (by decide) rfl ?_
            refine x_ifeq C dX3_mayBe_65 68 97 rfl (by decide) (fun h65 => ?_) (fun h65 => ?_)
            · refine x_ic (j := 0) C dX3_mayBe_97 98 rfl ?_
              exact x_zret C dX3_mayBe_98 (Nat.le_refl _) (Nat.le_refl _) rfl ⟨b0 (mbB_f (p := p + 1) (by rw [mb_yes hm h32]; simp [h32, h45, h55, h65]) (by omega)), rfl, rfl, rfl⟩
            · refine x_iload C dX3_mayBe_68 70 rfl rfl ?_
              refine x_aloadr_n C dX3_mayBe_70 71 rfl rfl ?_
              refine x_getr C fl_X3_54 (Or.inr ⟨_, rfl⟩) dX3_mayBe_71 74 rfl hS.1 (twR_beds hS) ?_
              refine x_iload C dX3_mayBe_74 76 rfl rfl ?_
              refine x_iald C dX3_mayBe_76 77 rfl (twA_beds hS) (twN_beds hS) rfl (by omega) (by decide) rfl ?_
              refine x_icmpeq C dX3_mayBe_77 80 97 rfl (by decide) (fun h77 => ?_) (fun h77 => ?_)
              · refine x_ic (j := 0) C dX3_mayBe_97 98 rfl ?_
                exact x_zret C dX3_mayBe_98 (Nat.le_refl _) (Nat.le_refl _) rfl ⟨b0 (mbB_f (p := p + 1) (by rw [mb_yes hm h32]; simp [h32, h45, h55, h65, h77]) (by omega)), rfl, rfl, rfl⟩
              · refine x_iload C dX3_mayBe_80 82 rfl rfl ?_
                refine x_ic (j := 1) C dX3_mayBe_82 83 rfl ?_
                refine x_icmpneN C dX3_mayBe_83 86 99 rfl (by decide) (by omega) (by omega) (fun h83 => ?_) (fun h83 => ?_)
                · refine x_iload C dX3_mayBe_99 101 rfl rfl ?_
                  refine x_istore C dX3_mayBe_101 103 rfl [_, _, _, _, _, _, _, _] (by decide) rfl rfl ?_
                  refine x_iinc C dX3_mayBe_103 106 rfl [_, _, _, _, _, _, _, _] (nI_inc _) (by decide) rfl rfl rfl ?_
                  refine x_iinc C dX3_mayBe_106 109 rfl [_, _, _, _, _, _, _, _] (nI_inc _) (by decide) rfl rfl rfl ?_
                  refine x_goto C dX3_mayBe_109 17 (by decide) ?_
                  exact ih (p + 1) _ _ (by omega) (by first | exact mb_no hm h32 | (rw [mb_yes hm h32]; simp [h32, h45, h55, h65, h77, h83]))
                · obtain ⟨o, ho, eo⟩ := hn2.resolve_left (by omega)
                  subst eo
                  have eo : nt (nI o) = o := nt_nI (by omega)
                  have h77' := h77
                  rw [h83] at h77'
                  refine x_aloadr_n C dX3_mayBe_86 87 rfl rfl ?_
                  refine x_iload C dX3_mayBe_87 89 rfl rfl ?_
                  refine x_iload C dX3_mayBe_89 91 rfl rfl ?_
                  refine x_callV C lk_X3_201 dX3_mayBe_91 94 rfl [_, _] [] rfl rfl hS.1 (Nat.le_of_ble_eq_true rfl) (by decide) (Nat.le_refl _) (Nat.le_refl _) (kX3_mayShare hS (by omega) (by omega)) ?_
                  rintro _ _ _ _ ⟨rfl, rfl, rfl, rfl⟩
                  refine x_ifneZ C dX3_mayBe_94 97 99 rfl (by decide) (fun h94 => ?_) (fun h94 => ?_)
                  · refine x_iload C dX3_mayBe_99 101 rfl rfl ?_
                    refine x_istore C dX3_mayBe_101 103 rfl [_, _, _, _, _, _, _, _] (by decide) rfl rfl ?_
                    refine x_iinc C dX3_mayBe_103 106 rfl [_, _, _, _, _, _, _, _] (nI_inc _) (by decide) rfl rfl rfl ?_
                    refine x_iinc C dX3_mayBe_106 109 rfl [_, _, _, _, _, _, _, _] (nI_inc _) (by decide) rfl rfl rfl ?_
                    refine x_goto C dX3_mayBe_109 17 (by decide) ?_
                    exact ih (p + 1) _ _ (by omega) (by first | exact mb_no hm h32 | (rw [mb_yes hm h32]; simp [h32, h45, h55, h65, h77, h83, h77', eo, h94]))
                  · refine x_ic (j := 0) C dX3_mayBe_97 98 rfl ?_
                    exact x_zret C dX3_mayBe_98 (Nat.le_refl _) (Nat.le_refl _) rfl ⟨b0 (mbB_f (p := p + 1) (by rw [mb_yes hm h32]; simp [h32, h45, h55, h65, h77, h83, h77', eo, h94]) (by omega)), rfl, rfl, rfl⟩
      · refine x_goto C dX3_mayBe_35 106 (by decide) ?_
        refine x_iinc C dX3_mayBe_106 109 rfl [_, _, _, _, _, _, _, _] (nI_inc _) (by decide) rfl rfl rfl ?_
        refine x_goto C dX3_mayBe_109 17 (by decide) ?_
        exact ih (p + 1) _ _ (by omega) (by first | exact mb_no hm h32 | (rw [mb_yes hm h32]; simp [h32]))
  exact hloop (pn I) 0 0 (-1) (Nat.zero_add _) rfl
end Tw5
