/-! the twin: worth, give, buy, read, feed -/
def sp_worth (I : Mi) (t k : Int32) : Int32 := if toB I t && inB k (nI 0) (nI 3) then tol (rulesOf I (nt t)) k (stI I (nt t)) else -1
def gvC (I : Mi) (t r : Nat) : Int32 := prt I t r (tol (rulesOf I t) (nI 0) (stI I t))
def byC (I : Mi) (t r : Nat) : Int32 := prt I t r (tol (rulesOf I t) (nI 1) (stI I t))
def sp_give (I : Mi) (t r : Int32) : Int32 × Mi :=
  if opB I t && inB r (nI 0) (I 485 (nt t) - nI 1) && !decide (I 489 (10 * nt t + nt r) = 0) && decide (si I (pn I) (nt t) r = 0) then
    (gvC I (nt t) (nt r), sto (sto I 489 (10 * nt t + nt r) (nI 0)) 473 17 (I 473 17 + gvC I (nt t) (nt r)))
  else no1 I
def sp_buy (I : Mi) (t r : Int32) : Int32 × Mi :=
  if opB I t && inB r (nI 0) (I 485 (nt t) - nI 1) && decide (I 489 (10 * nt t + nt r) = 0) then
    (byC I (nt t) (nt r), sto (sto I 489 (10 * nt t + nt r) (nI 1)) 473 17 (I 473 17 + byC I (nt t) (nt r)))
  else no1 I
/-- an answer, and a memory but for what tells nothing -/
abbrev Qg (q : Int32 × Mi) (S : Sh) (J : Ml) : Option Value → Sh → Mi → Ml → Prop := fun r S' I' J' => S = S' ∧ r = some (.int q.1) ∧ gq I' q.2 ∧ jq J' J
theorem Qg_of {q : Int32 × Mi} {v : Int32} {A I' : Mi} {S : Sh} {J J' : Ml} (h : q = (v, A)) (hg : gq I' A) (hj : jq J' J) : Qg q S J (some (.int v)) S I' J' := by
  subst h
  exact ⟨rfl, rfl, hg, hj⟩
theorem prt_q {A B : Mi} (h : nwq A B) (t r : Nat) (x : Int32) : prt A t r x = prt B t r x := by
  unfold prt
  rw [h.row (b := 488) (by decide) (by decide), h.row (b := 483) (by decide) (by decide)]
theorem gq_cpO {A B : Mi} (h : gq A B) (a o : Nat) (src : Nat → Int32) : ∀ k, gq (cpO A a o src k) (cpO B a o src k)
  | 0 => h
  | k + 1 => gq_sto (gq_cpO h a o src k) _ _ _
section Tw12
variable {w : Wd} {l : Launch} {S : Sh} {I : Mi} {J : Ml}
theorem kX3_worth (hS : twS S) (hI : Tok I) (hT : ∀ t, t < tn I → TxOk I t) {t k : Int32} : Ct w l yX3_worth cX3_worth 3 (some .int) 30 0 0 [.ref 473, .int t, .int k] S I J (Qf nwq (sp_worth I t k) S I J) := by
  refine Ct.of [some _, some _, some _] rfl (Nat.le_of_ble_eq_true rfl) (by decide) ?_
  intro κ hκ C
  subst hκ
  have hp10 := tk_p2 hI
  have ht6 := tk_t2 hI
  have hg30 := tk_g2 hI
  have hc30 := tk_c2 hI
  have hn500 := tk_n2 hI
  refine x_aloadr_n C dX3_worth_0 1 rfl rfl ?_
  refine x_iload_n C dX3_worth_1 2 rfl rfl ?_
  refine x_callV C lk_X3_170 dX3_worth_2 5 rfl [_] [] rfl rfl hS.1 (Nat.le_of_ble_eq_true rfl) (by decide) (Nat.le_refl _) (Nat.le_refl _) (kX3_isTown hS) ?_
  rintro _ _ _ _ ⟨rfl, rfl, rfl, rfl⟩
  refine x_ifeqZ C dX3_worth_5 8 26 rfl (by decide) (fun h5 => ?_) (fun h5 => ?_)
  · refine x_icm C dX3_worth_26 27 rfl ?_
    exact x_iret C dX3_worth_27 (Nat.le_refl _) (Nat.le_refl _) ⟨rfl, by simp [sp_worth, h5], fun _ _ _ _ => rfl, jq_refl _⟩
  · obtain ⟨t, ht, rfl⟩ := to_I hI h5
    have et : nt (nI t) = t := nt_nI (by omega)
    refine x_iload_n C dX3_worth_8 9 rfl rfl ?_
    refine x_ic (j := 0) C dX3_worth_9 10 rfl ?_
    refine x_ic (j := 3) C dX3_worth_10 11 rfl ?_
    refine x_callS C lk_X3_160 dX3_worth_11 14 rfl [_, _, _] [] rfl rfl (Nat.le_of_ble_eq_true rfl) (by decide) (Nat.le_refl _) (Nat.le_refl _) kX3_in ?_
    rintro _ _ _ _ ⟨rfl, rfl, rfl, rfl⟩
    refine x_ifeqZ C dX3_worth_14 17 26 rfl (by decide) (fun h14 => ?_) (fun h14 => ?_)
    · refine x_icm C dX3_worth_26 27 rfl ?_
      exact x_iret C dX3_worth_27 (Nat.le_refl _) (Nat.le_refl _) ⟨rfl, by simp [sp_worth, h5, et, h14], fun _ _ _ _ => rfl, jq_refl _⟩
    · refine x_aloadr_n C dX3_worth_17 18 rfl rfl ?_
      refine x_iload_n C dX3_worth_18 19 rfl rfl ?_
      refine x_iload_n C dX3_worth_19 20 rfl rfl ?_
      refine x_callV C lk_X3_387 dX3_worth_20 23 rfl [_, _] [] rfl rfl hS.1 (Nat.le_of_ble_eq_true rfl) (by decide) (Nat.le_refl _) (Nat.le_refl _) (kX3_now hS hI (by omega) (hT t ht)) ?_
      rintro _ _ I1 J1 ⟨rfl, rfl, hf, hj⟩
      refine x_goto C dX3_worth_23 27 (by decide) ?_
      exact x_iret C dX3_worth_27 (Nat.le_refl _) (Nat.le_refl _) ⟨rfl, by simp [sp_worth, h5, et, h14], hf, hj⟩
theorem kX3_give (hS : twS S) (hI : Tok I) (hT : ∀ t, t < tn I → TxOk I t) {t r : Int32} : Ct w l yX3_give cX3_give 4 (some .int) 30 0 0 [.ref 473, .int t, .int r] S I J (Qg (sp_give I t r) S J) := by
  refine Ct.of [some _, some _, some _, none] rfl (Nat.le_of_ble_eq_true rfl) (by decide) ?_
  intro κ hκ C
  subst hκ
  have hp10 := tk_p2 hI
  have ht6 := tk_t2 hI
  have hg30 := tk_g2 hI
  have hc30 := tk_c2 hI
  have hn500 := tk_n2 hI
  refine x_aloadr_n C dX3_give_0 1 rfl rfl ?_
  refine x_iload_n C dX3_give_1 2 rfl rfl ?_
  refine x_callV C lk_X3_198 dX3_give_2 5 rfl [_] [] rfl rfl hS.1 (Nat.le_of_ble_eq_true rfl) (by decide) (Nat.le_refl _) (Nat.le_refl _) (kX3_isOpenI hS (tk_t hI) (tk_t2 hI)) ?_
  rintro _ _ _ _ ⟨rfl, rfl, rfl, rfl⟩
  refine x_ifeqZ C dX3_give_5 8 40 rfl (by decide) (fun h5 => ?_) (fun h5 => ?_)
  · refine x_icm C dX3_give_40 41 rfl ?_
    exact x_iret C dX3_give_41 (Nat.le_refl _) (Nat.le_refl _) (Qg_of (A := I) (by simp [sp_give, no1, h5]) (gq_refl _) (jq_refl _))
  · obtain ⟨t, ht, rfl⟩ := to_I hI (op_to h5)
    have et : nt (nI t) = t := nt_nI (by omega)
    have hrn := tk_r2 hI (show t < 6 by omega)
    refine x_aloadr_n C dX3_give_8 9 rfl rfl ?_
    refine x_iload_n C dX3_give_9 10 rfl rfl ?_
    refine x_iload_n C dX3_give_10 11 rfl rfl ?_
    refine x_callV C lk_X3_208 dX3_give_11 14 rfl [_, _] [] rfl rfl hS.1 (Nat.le_of_ble_eq_true rfl) (by decide) (Nat.le_refl _) (Nat.le_refl _) (kX3_isRoom hS (by omega)) ?_
    rintro _ _ _ _ ⟨rfl, rfl, rfl, rfl⟩
    refine x_ifeqZ C dX3_give_14 17 40 rfl (by decide) (fun h14 => ?_) (fun h14 => ?_)
    · refine x_icm C dX3_give_40 41 rfl ?_
      exact x_iret C dX3_give_41 (Nat.le_refl _) (Nat.le_refl _) (Qg_of (A := I) (by simp [sp_give, no1, h5, et, h14]) (gq_refl _) (jq_refl _))
    · obtain ⟨r, hr, rfl⟩ := in_of (m := rn I t) (by rw [← tk_r hI (by omega)]; exact h14) (by omega)
      have er : nt (nI r) = r := nt_nI (by omega)
      refine x_aloadr_n C dX3_give_17 18 rfl rfl ?_
      refine x_getr C fl_X3_63 (Or.inr ⟨_, rfl⟩) dX3_give_18 21 rfl hS.1 (twR_held hS) ?_
      refine x_bip (j := 10) C dX3_give_21 23 rfl (by decide) ?_
      refine x_iload_n C dX3_give_23 24 rfl rfl ?_
      refine x_imul C dX3_give_24 25 rfl (pk_mul _ _) ?_
      refine x_iload_n C dX3_give_25 26 rfl rfl ?_
      refine x_iadd C dX3_give_26 27 rfl (nI_add _ _) ?_
      refine x_zald C dX3_give_27 28 rfl (twA_held hS) (twN_held hS) rfl (by omega) (by decide) rfl ?_
      refine x_ifeq C dX3_give_28 31 40 rfl (by decide) (fun h28 => ?_) (fun h28 => ?_)
      · refine x_icm C dX3_give_40 41 rfl ?_
        exact x_iret C dX3_give_41 (Nat.le_refl _) (Nat.le_refl _) (Qg_of (A := I) (by simp [sp_give, no1, h5, et, h14, er, h28]) (gq_refl _) (jq_refl _))
      · refine x_aloadr_n C dX3_give_31 32 rfl rfl ?_
        refine x_iload_n C dX3_give_32 33 rfl rfl ?_
        refine x_iload_n C dX3_give_33 34 rfl rfl ?_
        refine x_callV C lk_X3_211 dX3_give_34 37 rfl [_, _] [] rfl rfl hS.1 (Nat.le_of_ble_eq_true rfl) (by decide) (Nat.le_refl _) (Nat.le_refl _) (kX3_setIn hS (tk_p hI) (tk_p2 hI) (by omega)) ?_
        rintro _ _ _ _ ⟨rfl, rfl, rfl, rfl⟩
        refine x_ifeqN C dX3_give_37 40 42 rfl (by decide) (Nat.lt_of_lt_of_le (si_lt I t _ hp10) (by decide)) (fun h37 => ?_) (fun h37 => ?_)
        · refine x_aloadr_n C dX3_give_42 43 rfl rfl ?_
          refine x_iload_n C dX3_give_43 44 rfl rfl ?_
          refine x_iload_n C dX3_give_44 45 rfl rfl ?_
          refine x_aloadr_n C dX3_give_45 46 rfl rfl ?_
          refine x_iload_n C dX3_give_46 47 rfl rfl ?_
          refine x_ic (j := 0) C dX3_give_47 48 rfl ?_
          refine x_callV C lk_X3_387 dX3_give_48 51 rfl [_, _] [_, _, _] rfl rfl hS.1 (Nat.le_of_ble_eq_true rfl) (by decide) (Nat.le_refl _) (Nat.le_refl _) (kX3_now hS hI (by omega) (hT t ht)) ?_
          rintro _ _ I1 J1 ⟨rfl, rfl, hf, hj⟩
          refine x_callV C lk_X3_390 dX3_give_51 54 rfl [_, _, _] [] rfl rfl hS.1 (Nat.le_of_ble_eq_true rfl) (by decide) (Nat.le_refl _) (Nat.le_refl _) (kX3_part_2 hS (by omega) (by omega)) ?_
          rintro _ _ _ _ ⟨rfl, rfl, rfl, rfl⟩
          rw [prt_q hf]
          refine x_istore_n C dX3_give_54 55 rfl [_, _, _, _] (by decide) rfl rfl ?_
          refine x_aloadr_n C dX3_give_55 56 rfl rfl ?_
          refine x_getr C fl_X3_63 (Or.inr ⟨_, rfl⟩) dX3_give_56 59 rfl hS.1 (twR_held hS) ?_
          refine x_bip (j := 10) C dX3_give_59 61 rfl (by decide) ?_
          refine x_iload_n C dX3_give_61 62 rfl rfl ?_
          refine x_imul C dX3_give_62 63 rfl (pk_mul _ _) ?_
          refine x_iload_n C dX3_give_63 64 rfl rfl ?_
          refine x_iadd C dX3_give_64 65 rfl (nI_add _ _) ?_
          refine x_ic (j := 0) C dX3_give_65 66 rfl ?_
          refine x_zast C dX3_give_66 67 rfl (twA_held hS) (twN_held hS) rfl (by omega) (by decide) rfl ?_
          refine x_aloadr_n C dX3_give_67 68 rfl rfl ?_
          refine x_dup C dX3_give_68 69 rfl rfl ?_
          refine x_geti C fl_X3_392 (Or.inl rfl) dX3_give_69 72 rfl hS.1 (show sto I1 489 (10 * t + r) (nI 0) 473 17 = I 473 17 from hf 473 17 (by decide) (by omega)) ?_
          refine x_iload_n C dX3_give_72 73 rfl rfl ?_
          refine x_iadd C dX3_give_73 74 rfl rfl ?_
          refine x_puti C fl_X3_392 (Or.inl rfl) (Or.inl rfl) dX3_give_74 77 rfl hS.1 ?_
          refine x_iload_n C dX3_give_77 78 rfl rfl ?_
          exact x_iret C dX3_give_78 (Nat.le_refl _) (Nat.le_refl _) (Qg_of (A := sto (sto I 489 (10 * t + r) (nI 0)) 473 17 (I 473 17 + gvC I t r)) (by simp [sp_give, gvC, h5, et, h14, er, h28, h37]) (gq_sto (gq_sto hf.g _ _ _) _ _ _) hj)
        · refine x_icm C dX3_give_40 41 rfl ?_
          exact x_iret C dX3_give_41 (Nat.le_refl _) (Nat.le_refl _) (Qg_of (A := I) (by simp [sp_give, no1, h5, et, h14, er, h28, h37]) (gq_refl _) (jq_refl _))
theorem kX3_buy (hS : twS S) (hI : Tok I) (hT : ∀ t, t < tn I → TxOk I t) {t r : Int32} : Ct w l yX3_buy cX3_buy 4 (some .int) 30 0 0 [.ref 473, .int t, .int r] S I J (Qg (sp_buy I t r) S J) := by
  refine Ct.of [some _, some _, some _, none] rfl (Nat.le_of_ble_eq_true rfl) (by decide) ?_
  intro κ hκ C
  subst hκ
  have hp10 := tk_p2 hI
  have ht6 := tk_t2 hI
  have hg30 := tk_g2 hI
  have hc30 := tk_c2 hI
  have hn500 := tk_n2 hI
  refine x_aloadr_n C dX3_buy_0 1 rfl rfl ?_
  refine x_iload_n C dX3_buy_1 2 rfl rfl ?_
  refine x_callV C lk_X3_198 dX3_buy_2 5 rfl [_] [] rfl rfl hS.1 (Nat.le_of_ble_eq_true rfl) (by decide) (Nat.le_refl _) (Nat.le_refl _) (kX3_isOpenI hS (tk_t hI) (tk_t2 hI)) ?_
  rintro _ _ _ _ ⟨rfl, rfl, rfl, rfl⟩
  refine x_ifeqZ C dX3_buy_5 8 31 rfl (by decide) (fun h5 => ?_) (fun h5 => ?_)
  · refine x_icm C dX3_buy_31 32 rfl ?_
    exact x_iret C dX3_buy_32 (Nat.le_refl _) (Nat.le_refl _) (Qg_of (A := I) (by simp [sp_buy, no1, h5]) (gq_refl _) (jq_refl _))
  · obtain ⟨t, ht, rfl⟩ := to_I hI (op_to h5)
    have et : nt (nI t) = t := nt_nI (by omega)
    have hrn := tk_r2 hI (show t < 6 by omega)
    refine x_aloadr_n C dX3_buy_8 9 rfl rfl ?_
    refine x_iload_n C dX3_buy_9 10 rfl rfl ?_
    refine x_iload_n C dX3_buy_10 11 rfl rfl ?_
    refine x_callV C lk_X3_208 dX3_buy_11 14 rfl [_, _] [] rfl rfl hS.1 (Nat.le_of_ble_eq_true rfl) (by decide) (Nat.le_refl _) (Nat.le_refl _) (kX3_isRoom hS (by omega)) ?_
    rintro _ _ _ _ ⟨rfl, rfl, rfl, rfl⟩
    refine x_ifeqZ C dX3_buy_14 17 31 rfl (by decide) (fun h14 => ?_) (fun h14 => ?_)
    · refine x_icm C dX3_buy_31 32 rfl ?_
      exact x_iret C dX3_buy_32 (Nat.le_refl _) (Nat.le_refl _) (Qg_of (A := I) (by simp [sp_buy, no1, h5, et, h14]) (gq_refl _) (jq_refl _))
    · obtain ⟨r, hr, rfl⟩ := in_of (m := rn I t) (by rw [← tk_r hI (by omega)]; exact h14) (by omega)
      have er : nt (nI r) = r := nt_nI (by omega)
      refine x_aloadr_n C dX3_buy_17 18 rfl rfl ?_
      refine x_getr C fl_X3_63 (Or.inr ⟨_, rfl⟩) dX3_buy_18 21 rfl hS.1 (twR_held hS) ?_
      refine x_bip (j := 10) C dX3_buy_21 23 rfl (by decide) ?_
      refine x_iload_n C dX3_buy_23 24 rfl rfl ?_
      refine x_imul C dX3_buy_24 25 rfl (pk_mul _ _) ?_
      refine x_iload_n C dX3_buy_25 26 rfl rfl ?_
      refine x_iadd C dX3_buy_26 27 rfl (nI_add _ _) ?_
      refine x_zald C dX3_buy_27 28 rfl (twA_held hS) (twN_held hS) rfl (by omega) (by decide) rfl ?_
      refine x_ifeq C dX3_buy_28 31 33 rfl (by decide) (fun h28 => ?_) (fun h28 => ?_)
      · refine x_aloadr_n C dX3_buy_33 34 rfl rfl ?_
        refine x_iload_n C dX3_buy_34 35 rfl rfl ?_
        refine x_iload_n C dX3_buy_35 36 rfl rfl ?_
        refine x_aloadr_n C dX3_buy_36 37 rfl rfl ?_
        refine x_iload_n C dX3_buy_37 38 rfl rfl ?_
        refine x_ic (j := 1) C dX3_buy_38 39 rfl ?_
        refine x_callV C lk_X3_387 dX3_buy_39 42 rfl [_, _] [_, _, _] rfl rfl hS.1 (Nat.le_of_ble_eq_true rfl) (by decide) (Nat.le_refl _) (Nat.le_refl _) (kX3_now hS hI (by omega) (hT t ht)) ?_
        rintro _ _ I1 J1 ⟨rfl, rfl, hf, hj⟩
        refine x_callV C lk_X3_390 dX3_buy_42 45 rfl [_, _, _] [] rfl rfl hS.1 (Nat.le_of_ble_eq_true rfl) (by decide) (Nat.le_refl _) (Nat.le_refl _) (kX3_part_2 hS (by omega) (by omega)) ?_
        rintro _ _ _ _ ⟨rfl, rfl, rfl, rfl⟩
        rw [prt_q hf]
        refine x_istore_n C dX3_buy_45 46 rfl [_, _, _, _] (by decide) rfl rfl ?_
        refine x_aloadr_n C dX3_buy_46 47 rfl rfl ?_
        refine x_getr C fl_X3_63 (Or.inr ⟨_, rfl⟩) dX3_buy_47 50 rfl hS.1 (twR_held hS) ?_
        refine x_bip (j := 10) C dX3_buy_50 52 rfl (by decide) ?_
        refine x_iload_n C dX3_buy_52 53 rfl rfl ?_
        refine x_imul C dX3_buy_53 54 rfl (pk_mul _ _) ?_
        refine x_iload_n C dX3_buy_54 55 rfl rfl ?_
        refine x_iadd C dX3_buy_55 56 rfl (nI_add _ _) ?_
        refine x_ic (j := 1) C dX3_buy_56 57 rfl ?_
        refine x_zast C dX3_buy_57 58 rfl (twA_held hS) (twN_held hS) rfl (by omega) (by decide) rfl ?_
        refine x_aloadr_n C dX3_buy_58 59 rfl rfl ?_
        refine x_dup C dX3_buy_59 60 rfl rfl ?_
        refine x_geti C fl_X3_392 (Or.inl rfl) dX3_buy_60 63 rfl hS.1 (show sto I1 489 (10 * t + r) (nI 1) 473 17 = I 473 17 from hf 473 17 (by decide) (by omega)) ?_
        refine x_iload_n C dX3_buy_63 64 rfl rfl ?_
        refine x_iadd C dX3_buy_64 65 rfl rfl ?_
        refine x_puti C fl_X3_392 (Or.inl rfl) (Or.inl rfl) dX3_buy_65 68 rfl hS.1 ?_
        refine x_iload_n C dX3_buy_68 69 rfl rfl ?_
        exact x_iret C dX3_buy_69 (Nat.le_refl _) (Nat.le_refl _) (Qg_of (A := sto (sto I 489 (10 * t + r) (nI 1)) 473 17 (I 473 17 + byC I t r)) (by simp [sp_buy, byC, h5, et, h14, er, h28]) (gq_sto (gq_sto hf.g _ _ _) _ _ _) hj)
      · refine x_icm C dX3_buy_31 32 rfl ?_
        exact x_iret C dX3_buy_32 (Nat.le_refl _) (Nat.le_refl _) (Qg_of (A := I) (by simp [sp_buy, no1, h5, et, h14, er, h28]) (gq_refl _) (jq_refl _))
end Tw12
/-! a text is read for a town -/
def rdS (I : Mi) (t : Nat) (L : List Rul) : Mi := sto (sto (cpO (sto I 473 41 (nI 0)) 504 (400 * t) (fun k => I 503 k) (dn I)) 505 t (nI (dn I))) 506 t (nI L.length)
def sp_read (I : Mi) (t : Int32) : Int32 × Mi := if toB I t then (match pRules (ct (I 503) (dn I)) (dn I) with
    | .ok L => (nI 0, rdS I (nt t) L)
    | .error e => (nI (e.1 + 10 * e.2), sto I 473 41 (nI 0)))
  else no1 I
theorem pRl_er {tx : Nat → Int32} {n : Nat} : ∀ (f : Nat) (t : Tk) (L : List Rul), t.1 ≤ n → t.2.1 ≤ n → ∀ e, pRl tx n f t L = .error e → (e.1 = 1 ∨ e.1 = 2 ∨ e.1 = 3) ∧ e.2 ≤ n
  | 0, t, L, h1, h2, e, h => by cases h
  | f + 1, t, L, h1, h2, e, h => by
    have hx := nx_le tx h1
    have hpo := pW_ok (tx := tx) (n := n) (nx tx n t.1) hx.2.1 hx.2.2.1
    unfold pRl at h
    split at h
    · cases h
    · split at h
      · cases h; exact ⟨Or.inl rfl, h2⟩
      · split at h
        · cases h; exact ⟨Or.inr (Or.inl rfl), h2⟩
        · split at h
          · rename_i he; cases h; exact hpo.1.2 _ he
          · rename_i u g he
            have hu := hpo.1.1 _ _ he
            have hx2 := nx_le tx hu.2.1
            have hpo2 := pW_ok (tx := tx) (n := n) (nx tx n u.1) hx2.2.1 hx2.2.2.1
            split at h
            · split at h
              · rename_i he2; cases h; exact hpo2.1.2 _ he2
              · rename_i u2 g2 he2
                have hu2 := hpo2.1.1 _ _ he2
                have hx3 := nx_le tx hu2.2.1
                split at h
                · exact pRl_er f _ _ hx3.2.1 hx3.2.2.1 e h
                · cases h; exact ⟨Or.inl rfl, hu2.2.2⟩
            · split at h
              · exact pRl_er f _ _ hx2.2.1 hx2.2.2.1 e h
              · cases h; exact ⟨Or.inl rfl, hu.2.2⟩
theorem pRules_er {tx : Nat → Int32} {n : Nat} {e : Nat × Nat} (h : pRules tx n = .error e) : (e.1 = 1 ∨ e.1 = 2 ∨ e.1 = 3) ∧ e.2 ≤ n :=
  pRl_er (n + 1) _ _ (nx_le tx (Nat.zero_le n)).2.1 (nx_le tx (Nat.zero_le n)).2.2.1 e h
section Tw12
variable {w : Wd} {l : Launch} {S : Sh} {I : Mi} {J : Ml}
theorem kX3_read (hS : twS S) (hI : Tok I) (hb : ∀ k, k < dn I → byt (I 503 k)) {t : Int32} : Ct w l yX3_read cX3_read 3 (some .int) 28 0 0 [.ref 473, .int t] S I J (Qg (sp_read I t) S J) := by
  refine Ct.of [some _, some _, none] rfl (Nat.le_of_ble_eq_true rfl) (by decide) ?_
  intro κ hκ C
  subst hκ
  have hp10 := tk_p2 hI
  have ht6 := tk_t2 hI
  have hg30 := tk_g2 hI
  have hc30 := tk_c2 hI
  have hn500 := tk_n2 hI
  have hd400 := tk_d2 hI
  refine x_aloadr_n C dX3_read_0 1 rfl rfl ?_
  refine x_iload_n C dX3_read_1 2 rfl rfl ?_
  refine x_callV C lk_X3_170 dX3_read_2 5 rfl [_] [] rfl rfl hS.1 (Nat.le_of_ble_eq_true rfl) (by decide) (Nat.le_refl _) (Nat.le_refl _) (kX3_isTown hS) ?_
  rintro _ _ _ _ ⟨rfl, rfl, rfl, rfl⟩
  refine x_ifneZ C dX3_read_5 8 10 rfl (by decide) (fun h5 => ?_) (fun h5 => ?_)
  · obtain ⟨t, ht, rfl⟩ := to_I hI h5
    have et : nt (nI t) = t := nt_nI (by omega)
    refine x_aloadr_n C dX3_read_10 11 rfl rfl ?_
    refine x_aloadr_n C dX3_read_11 12 rfl rfl ?_
    refine x_geti C fl_X3_246 (Or.inl rfl) dX3_read_12 15 rfl hS.1 (tk_d (I := I) hI) ?_
    refine x_puti C fl_X3_252 (Or.inl rfl) (Or.inl rfl) dX3_read_15 18 rfl hS.1 ?_
    refine x_ic (j := 0) C dX3_read_18 19 rfl ?_
    refine x_istore_n C dX3_read_19 20 rfl [_, _, _] (by decide) rfl rfl ?_
    have hloop20 : ∀ (j k : Nat), k + j = (dn I) → XX w κ (Zr w κ (Qg (sp_read I (nI t)) S J)) 0 0 20 [some (.ref 473), some (.int (nI t)), some (.int (nI k))] [] S (cpO (sto I 473 46 (nI (dn I))) 507 0 (fun k => I 503 k) k) J := by
      intro j
      induction j with
      | zero =>
        intro k  e20
        have e20 : (dn I) = k := Eq.symm e20
        subst e20
        have hz : sto (cpO (sto I 473 46 (nI (dn I))) 507 0 (fun k => I 503 k) (dn I)) 473 41 (nI 0) 473 46 = nI (dn I) := (sto_kn _ _ _ _ (by decide)).trans ((congrFun (cpO_n (by decide) _) 46).trans (sto_ss _ _ _ _))
        have htx : ct (sto (cpO (sto I 473 46 (nI (dn I))) 507 0 (fun k => I 503 k) (dn I)) 473 41 (nI 0) 507) (dn I) = ct (I 503) (dn I) := by
          funext i
          unfold ct
          by_cases hi : i < dn I
          · rw [if_pos hi, if_pos hi, sto_n _ _ _ (by decide), cpO_a, if_pos (by omega), Nat.sub_zero]
          · rw [if_neg hi, if_neg hi]
        have hgq : ∀ (rd fd a p k d f g : Int32), gq (tmI (rB (sto (cpO (sto I 473 46 (nI (dn I))) 507 0 (fun k => I 503 k) (dn I)) 473 41 (nI 0)) rd fd) a p k d f g) (sto I 473 41 (nI 0)) := by
          intro rd fd a p k d f g b i q
          by_cases hb : b = 473
          · subst hb
            by_cases hi : 46 ≤ i ∧ i ≤ 59
            · have : gb 473 i = true := by simp [gb, Nat.ble_eq, hi.1, hi.2]
              rw [this] at q; cases q
            · rw [trs _ _ _ _ _ _ _ (by omega)]
              unfold rB
              rw [sto_kn _ _ _ _ (by omega), sto_kn _ _ _ _ (by omega)]
              by_cases h41 : i = 41
              · subst h41; rw [sto_ss, sto_ss]
              · rw [sto_kn _ _ _ _ h41, sto_kn _ _ _ _ h41, cpO_n (by decide), sto_kn _ _ _ _ (by omega)]
          · have h1 : b ≠ 507 := by intro e; subst e; simp [gb] at q
            rw [trn _ _ _ _ _ _ _ hb]
            unfold rB
            rw [sto_n _ _ _ hb, sto_n _ _ _ hb, sto_n _ _ _ hb, sto_n _ _ _ hb, cpO_n h1, sto_n _ _ _ hb]
        generalize hB : sto (cpO (sto I 473 46 (nI (dn I))) 507 0 (fun k => I 503 k) (dn I)) 473 41 (nI 0) = B at *
        refine x_iload_n C dX3_read_20 21 rfl rfl ?_
        refine x_aloadr_n C dX3_read_21 22 rfl rfl ?_
        refine x_geti C fl_X3_246 (Or.inl rfl) dX3_read_22 25 rfl hS.1 ((congrFun (cpO_n (b := 473) (by decide) _) 41).trans (tk_d (I := I) hI)) ?_
        refine x_icmpgeN C dX3_read_25 28 46 rfl (by decide) (by omega) (by omega) (fun _ => ?_) (fun h25 => absurd h25 (by omega))
        refine x_aloadr_n C dX3_read_46 47 rfl rfl ?_
        refine x_ic (j := 0) C dX3_read_47 48 rfl ?_
        refine x_puti C fl_X3_246 (Or.inl rfl) (Or.inl rfl) dX3_read_48 51 rfl hS.1 ?_
        rw [hB]
        refine x_aloadr_n C dX3_read_51 52 rfl rfl ?_
        refine x_icm C dX3_read_52 53 rfl ?_
        refine x_callV C lk_X3_372 dX3_read_53 56 rfl [_] [] rfl rfl hS.1 (Nat.le_of_ble_eq_true rfl) (by decide) (Nat.le_refl _) (Nat.le_refl _) (kX3_goes hS hz hd400 htx) ?_
        rintro _ _ _ _ ⟨rfl, rfl, a1, p1, k1, d1, u1, rfl, ⟨L, fp, e1, rfl⟩ | ⟨e, rd, fd, e1, rfl⟩⟩
        · have h51 := tr51 (rB B (nI L.length) (fnd (-1) (sg B) L)) a1 p1 k1 d1 (nI 0) fp
          have hg := hgq (nI L.length) (fnd (-1) (sg B) L) a1 p1 k1 d1 (nI 0) fp
          have h507 : ∀ i, i < dn I → tmI (rB B (nI L.length) (fnd (-1) (sg B) L)) a1 p1 k1 d1 (nI 0) fp 507 i = I 503 i := by
            intro i hi
            have := congrFun htx i
            rw [ct_lt hi, ct_lt hi] at this
            rw [trn _ _ _ _ _ _ _ (by decide)]
            exact this
          have h46 : tmI (rB B (nI L.length) (fnd (-1) (sg B) L)) a1 p1 k1 d1 (nI 0) fp 473 46 = nI (dn I) := (trs _ _ _ _ _ _ _ (by omega)).trans hz
          have h58 : tmI (rB B (nI L.length) (fnd (-1) (sg B) L)) a1 p1 k1 d1 (nI 0) fp 473 58 = nI L.length := (trs _ _ _ _ _ _ _ (by omega)).trans rfl
          generalize tmI (rB B (nI L.length) (fnd (-1) (sg B) L)) a1 p1 k1 d1 (nI 0) fp = M at *
          refine x_aloadr_n C dX3_read_56 57 rfl rfl ?_
          refine x_geti C fl_X3_294 (Or.inl rfl) dX3_read_57 60 rfl hS.1 h51 ?_
          refine x_ifleN C dX3_read_60 63 76 rfl (by decide) (by omega) (fun _ => ?_) (fun h60 => absurd h60 (by omega))
          refine x_ic (j := 0) C dX3_read_76 77 rfl ?_
          refine x_istore_n C dX3_read_77 78 rfl [_, _, _] (by decide) rfl rfl ?_
          have hloop78 : ∀ (j k : Nat), k + j = (dn I) → XX w κ (Zr w κ (Qg (sp_read I (nI t)) S J)) 0 0 78 [some (.ref 473), some (.int (nI t)), some (.int (nI k))] [] S (cpO M 504 (400 * t) (fun k => I 503 k) k) (tmJ J u1) := by
            intro j
            induction j with
            | zero =>
              intro k  e78
              have e78 : (dn I) = k := Eq.symm e78
              subst e78
              refine x_iload_n C dX3_read_78 79 rfl rfl ?_
              refine x_aloadr_n C dX3_read_79 80 rfl rfl ?_
              refine x_geti C fl_X3_252 (Or.inl rfl) dX3_read_80 83 rfl hS.1 ((congrFun (cpO_n (b := 473) (by decide) _) 46).trans h46) ?_
              refine x_icmpgeN C dX3_read_83 86 110 rfl (by decide) (by omega) (by omega) (fun _ => ?_) (fun h83 => absurd h83 (by omega))
              refine x_aloadr_n C dX3_read_110 111 rfl rfl ?_
              refine x_getr C fl_X3_115 (Or.inr ⟨_, rfl⟩) dX3_read_111 114 rfl hS.1 (twR_textLong hS) ?_
              refine x_iload_n C dX3_read_114 115 rfl rfl ?_
              refine x_aloadr_n C dX3_read_115 116 rfl rfl ?_
              refine x_geti C fl_X3_252 (Or.inl rfl) dX3_read_116 119 rfl hS.1 ((congrFun (cpO_n (b := 473) (by decide) _) 46).trans h46) ?_
              refine x_iast C dX3_read_119 120 rfl (twA_textLong hS) (twN_textLong hS) rfl (by omega) (by decide) ?_
              refine x_aloadr_n C dX3_read_120 121 rfl rfl ?_
              refine x_getr C fl_X3_118 (Or.inr ⟨_, rfl⟩) dX3_read_121 124 rfl hS.1 (twR_rules hS) ?_
              refine x_iload_n C dX3_read_124 125 rfl rfl ?_
              refine x_aloadr_n C dX3_read_125 126 rfl rfl ?_
              refine x_geti C fl_X3_361 (Or.inl rfl) dX3_read_126 129 rfl hS.1 (show sto (cpO M 504 (400 * t) (fun k => I 503 k) (dn I)) 505 t (nI (dn I)) 473 58 = nI L.length from (congrFun (sto_n _ _ _ (by decide)) 58).trans ((congrFun (cpO_n (b := 473) (by decide) _) 58).trans h58)) ?_
              refine x_iast C dX3_read_129 130 rfl (twA_rules hS) (twN_rules hS) rfl (by omega) (by decide) ?_
              refine x_ic (j := 0) C dX3_read_130 131 rfl ?_
              exact x_iret C dX3_read_131 (Nat.le_refl _) (Nat.le_refl _) (Qg_of (A := rdS I t L) (by simp [sp_read, et, h5, e1]) (gq_sto (gq_sto (gq_cpO hg _ _ _ _) _ _ _) _ _ _) (jq_tm _ _))
            | succ j ih78 =>
              intro k  e78
              refine x_iload_n C dX3_read_78 79 rfl rfl ?_
              refine x_aloadr_n C dX3_read_79 80 rfl rfl ?_
              refine x_geti C fl_X3_252 (Or.inl rfl) dX3_read_80 83 rfl hS.1 ((congrFun (cpO_n (b := 473) (by decide) _) 46).trans h46) ?_
              refine x_icmpgeN C dX3_read_83 86 110 rfl (by decide) (by omega) (by omega) (fun h83 => absurd h83 (by omega)) (fun _ => ?_)
              refine x_aloadr_n C dX3_read_86 87 rfl rfl ?_
              refine x_getr C fl_X3_112 (Or.inr ⟨_, rfl⟩) dX3_read_87 90 rfl hS.1 (twR_texts hS) ?_
              refine x_sip (j := 400) C dX3_read_90 93 rfl (by decide) ?_
              refine x_iload_n C dX3_read_93 94 rfl rfl ?_
              refine x_imul C dX3_read_94 95 rfl (pk_mul _ _) ?_
              refine x_iload_n C dX3_read_95 96 rfl rfl ?_
              refine x_iadd C dX3_read_96 97 rfl (nI_add _ _) ?_
              refine x_aloadr_n C dX3_read_97 98 rfl rfl ?_
              refine x_getr C fl_X3_121 (Or.inr ⟨_, rfl⟩) dX3_read_98 101 rfl hS.1 (twR_text hS) ?_
              refine x_iload_n C dX3_read_101 102 rfl rfl ?_
              refine x_bald C dX3_read_102 103 rfl (twA_text hS) (twN_text hS) rfl (by omega) (by decide) ((congrFun (cpO_n (b := 507) (by decide) _) _).trans (h507 _ (by omega))) ?_
              refine x_bast C dX3_read_103 104 rfl (twA_texts hS) (twN_texts hS) rfl (by omega) (by decide) (hb _ (by omega)) ?_
              refine x_iinc C dX3_read_104 107 rfl [_, _, _] (nI_inc _) (by decide) rfl rfl rfl ?_
              refine x_goto C dX3_read_107 78 (by decide) ?_
              refine x_eqI (by rfl) (ih78 (k + 1) (by omega))
          exact hloop78 (dn I) 0 (Nat.zero_add _)
        · have he := pRules_er e1
          refine x_aloadr_n C dX3_read_56 57 rfl rfl ?_
          refine x_geti C fl_X3_294 (Or.inl rfl) dX3_read_57 60 rfl hS.1 (tr51 _ _ _ _ _ _ _) ?_
          refine x_ifleN C dX3_read_60 63 76 rfl (by decide) (by omega) (fun h60 => absurd h60 (by omega)) (fun _ => ?_)
          refine x_aloadr_n C dX3_read_63 64 rfl rfl ?_
          refine x_geti C fl_X3_294 (Or.inl rfl) dX3_read_64 67 rfl hS.1 (tr51 _ _ _ _ _ _ _) ?_
          refine x_bip (j := 10) C dX3_read_67 69 rfl (by decide) ?_
          refine x_aloadr_n C dX3_read_69 70 rfl rfl ?_
          refine x_geti C fl_X3_297 (Or.inl rfl) dX3_read_70 73 rfl hS.1 (tr52 _ _ _ _ _ _ _) ?_
          refine x_imul C dX3_read_73 74 rfl (pk_mul _ _) ?_
          refine x_iadd C dX3_read_74 75 rfl (nI_add _ _) ?_
          exact x_iret C dX3_read_75 (Nat.le_refl _) (Nat.le_refl _) (Qg_of (A := sto I 473 41 (nI 0)) (by simp [sp_read, et, h5, e1]) (hgq _ _ _ _ _ _ _ _) (jq_tm _ _))
      | succ j ih20 =>
        intro k  e20
        refine x_iload_n C dX3_read_20 21 rfl rfl ?_
        refine x_aloadr_n C dX3_read_21 22 rfl rfl ?_
        refine x_geti C fl_X3_246 (Or.inl rfl) dX3_read_22 25 rfl hS.1 ((congrFun (cpO_n (b := 473) (by decide) _) 41).trans (tk_d (I := I) hI)) ?_
        refine x_icmpgeN C dX3_read_25 28 46 rfl (by decide) (by omega) (by omega) (fun h25 => absurd h25 (by omega)) (fun _ => ?_)
        refine x_aloadr_n C dX3_read_28 29 rfl rfl ?_
        refine x_getr C fl_X3_121 (Or.inr ⟨_, rfl⟩) dX3_read_29 32 rfl hS.1 (twR_text hS) ?_
        refine x_iload_n C dX3_read_32 33 rfl rfl ?_
        refine x_aloadr_n C dX3_read_33 34 rfl rfl ?_
        refine x_getr C fl_X3_108 (Or.inr ⟨_, rfl⟩) dX3_read_34 37 rfl hS.1 (twR_tape hS) ?_
        refine x_iload_n C dX3_read_37 38 rfl rfl ?_
        refine x_bald C dX3_read_38 39 rfl (twA_tape hS) (twN_tape hS) rfl (by omega) (by decide) ((congrFun (cpO_n (b := 503) (by decide) _) _).trans (show sto I 473 46 (nI (dn I)) 503 k = I 503 k from rfl)) ?_
        refine x_bast C dX3_read_39 40 rfl (twA_text hS) (twN_text hS) rfl (by omega) (by decide) (hb _ (by omega)) ?_
        refine x_iinc C dX3_read_40 43 rfl [_, _, _] (nI_inc _) (by decide) rfl rfl rfl ?_
        refine x_goto C dX3_read_43 20 (by decide) ?_
        refine x_eqI (by rw [cpO, Nat.zero_add]) (ih20 (k + 1) (by omega))
    exact hloop20 (dn I) 0 (Nat.zero_add _)
  · refine x_icm C dX3_read_8 9 rfl ?_
    exact x_iret C dX3_read_9 (Nat.le_refl _) (Nat.le_refl _) (Qg_of (A := I) (by simp [sp_read, no1, h5]) (gq_refl _) (jq_refl _))
end Tw12
