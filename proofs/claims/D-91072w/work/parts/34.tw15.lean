/-! the twin: loss, gives, feed; the town of a night -/
def sp_loss (I : Mi) (t d up dw sm : Int32) : Int32 := if loB I t d up dw sm then nI (Lo (feI I (nt t)) (nt up) (nt dw) (nt sm) (nt d) (hd0 I (nt t)) (us0 I (nt t))) else -1
def sp_gives (I : Mi) (t d up dw sm : Int32) : Int32 := if loB I t d up dw sm then nI (gaN (feI I (nt t)) (nt up) (nt dw) (nt sm) (hd0 I (nt t)) (us0 I (nt t)) (nt d)) else -1
theorem lo_of {I : Mi} (hI : Tok I) {t d up dw sm : Int32} (h : loB I t d up dw sm = true) : ∃ t' d' up' dw' sm' : Nat, t' < tn I ∧ d' ≤ 30 ∧ up' ≤ 3 ∧ dw' ≤ 3 ∧ sm' ≤ 1000 ∧ t = nI t' ∧ d = nI d' ∧ up = nI up' ∧ dw = nI dw' ∧ sm = nI sm' := by
  unfold loB at h
  simp only [Bool.and_eq_true] at h
  obtain ⟨⟨⟨⟨h1, h2⟩, h3⟩, h4⟩, h5⟩ := h
  obtain ⟨t', ht, rfl⟩ := to_I hI h1
  obtain ⟨d', -, hd, rfl⟩ := in_ex (by decide) (by decide) h2
  obtain ⟨a, -, ha, rfl⟩ := in_ex (by decide) (by decide) h3
  obtain ⟨b, -, hb, rfl⟩ := in_ex (by decide) (by decide) h4
  obtain ⟨c, -, hc, rfl⟩ := in_ex (by decide) (by decide) h5
  exact ⟨t', d', a, b, c, ht, hd, ha, hb, hc, rfl, rfl, rfl, rfl, rfl⟩
def fdB (a b c : Int64) (k : Nat) : Int32 := ((if k < 8 then a else if k < 16 then b else c) >>> ((nI (56 - 8 * (k % 8))).toInt64 &&& 63)).toInt32.toInt8.toInt32
def fdS (I : Mi) (a b c : Int64) : Nat → Mi
  | 0 => I
  | k + 1 => if fdB a b c k = 0 ∨ fdS I a b c k 473 41 = nI 400 then fdS I a b c k else sto (sto (fdS I a b c k) 503 (nt (fdS I a b c k 473 41)) (fdB a b c k)) 473 41 (fdS I a b c k 473 41 + nI 1)
theorem fdS_ok {I : Mi} (h : nOk (I 473 41) 400) (a b c : Int64) : ∀ k, nOk (fdS I a b c k 473 41) 400
  | 0 => h
  | k + 1 => by
    have ih := fdS_ok h a b c k
    rw [fdS]
    split
    · exact ih
    · rename_i hn
      rw [sto_ss, ih.1, nI_add]
      refine nOk_of rfl ?_ (by decide)
      have : ¬ nt (fdS I a b c k 473 41) = 400 := fun q => hn (Or.inr (by rw [ih.1, q]))
      have := ih.2
      omega
def sp_feed (I : Mi) (a b c : Int64) : Int32 × Mi := (fdS I a b c 24 473 41, fdS I a b c 24)
section Tw15
variable {w : Wd} {l : Launch} {S : Sh} {I : Mi} {J : Ml}
theorem kX3_loss (hS : twS S) (hI : Tok I) (hT : ∀ t, t < tn I → TxOk I t) {t d up dw sm : Int32} : Ct w l yX3_loss cX3_loss 6 (some .int) 30 0 0 [.ref 473, .int t, .int d, .int up, .int dw, .int sm] S I J (Qf lsq (sp_loss I t d up dw sm) S I J) := by
  refine Ct.of [some _, some _, some _, some _, some _, some _] rfl (Nat.le_of_ble_eq_true rfl) (by decide) ?_
  intro κ hκ C
  subst hκ
  have hp10 := tk_p2 hI
  have ht6 := tk_t2 hI
  have hg30 := tk_g2 hI
  have hc30 := tk_c2 hI
  have hn500 := tk_n2 hI
  refine x_aloadr_n C dX3_loss_0 1 rfl rfl ?_
  refine x_iload_n C dX3_loss_1 2 rfl rfl ?_
  refine x_iload_n C dX3_loss_2 3 rfl rfl ?_
  refine x_iload_n C dX3_loss_3 4 rfl rfl ?_
  refine x_iload C dX3_loss_4 6 rfl rfl ?_
  refine x_iload C dX3_loss_6 8 rfl rfl ?_
  refine x_callV C lk_X3_398 dX3_loss_8 11 rfl [_, _, _, _, _] [] rfl rfl hS.1 (Nat.le_of_ble_eq_true rfl) (by decide) (Nat.le_refl _) (Nat.le_refl _) (kX3_isLoss hS) ?_
  rintro _ _ _ _ ⟨rfl, rfl, rfl, rfl⟩
  refine x_ifneZ C dX3_loss_11 14 16 rfl (by decide) (fun h11 => ?_) (fun h11 => ?_)
  · obtain ⟨t, d, up, dw, sm, ht, hd, hup, hdw, hsm, rfl, rfl, rfl, rfl, rfl⟩ := lo_of hI h11
    have et : nt (nI t) = t := nt_nI (by omega)
    have ed : nt (nI d) = d := nt_nI (by omega)
    have eu : nt (nI up) = up := nt_nI (by omega)
    have ew : nt (nI dw) = dw := nt_nI (by omega)
    have es : nt (nI sm) = sm := nt_nI (by omega)
    have hr10 := tk_r2 hI (show t < 6 by omega)
    have hh0 : hd0 I t ≤ 10 := Nat.le_trans (cnt_le _ _) hr10
    have hu0 : us0 I t ≤ 10 := Nat.le_trans (cnt_le _ _) hr10
    refine x_aloadr_n C dX3_loss_16 17 rfl rfl ?_
    refine x_iload_n C dX3_loss_17 18 rfl rfl ?_
    refine x_iload_n C dX3_loss_18 19 rfl rfl ?_
    refine x_iload_n C dX3_loss_19 20 rfl rfl ?_
    refine x_iload C dX3_loss_20 22 rfl rfl ?_
    refine x_iload C dX3_loss_22 24 rfl rfl ?_
    refine x_callV C lk_X3_401 dX3_loss_24 27 rfl [_, _, _, _, _] [] rfl rfl hS.1 (Nat.le_of_ble_eq_true rfl) (by decide) (Nat.le_refl _) (Nat.le_refl _) (kX3_losses hS hI (by omega) (hT t ht) hd hup hdw hsm) ?_
    rintro _ _ M J1 ⟨rfl, rfl, hq, hj, hv, -⟩
    have r485 := hq.row (b := 485) (by decide) (by decide) (by decide) (by decide)
    have r489 := hq.row (b := 489) (by decide) (by decide) (by decide) (by decide)
    have r490 := hq.row (b := 490) (by decide) (by decide) (by decide) (by decide)
    have r1 : M 473 1 = nI (pn I) := (hq 473 1 (by decide) (by decide) (by decide) (by omega)).trans (tk_p hI)
    have r5 : M 485 t = nI (rn I t) := (congrFun r485 t).trans (tk_r hI (by omega))
    refine x_aloadr_n C dX3_loss_27 28 rfl rfl ?_
    refine x_getr C fl_X3_124 (Or.inr ⟨_, rfl⟩) dX3_loss_28 31 rfl hS.1 (twR_loss hS) ?_
    refine x_bip (j := 11) C dX3_loss_31 33 rfl (by decide) ?_
    refine x_aloadr_n C dX3_loss_33 34 rfl rfl ?_
    refine x_iload_n C dX3_loss_34 35 rfl rfl ?_
    refine x_callV C lk_X3_375 dX3_loss_35 38 rfl [_] [_, _] rfl rfl hS.1 (Nat.le_of_ble_eq_true rfl) (by decide) (Nat.le_refl _) (Nat.le_refl _) (kX3_heldIn hS (by omega) r5 hr10) ?_
    rintro _ _ _ _ ⟨rfl, rfl, rfl, rfl⟩
    rw [heldN_q r489]
    refine x_imul C dX3_loss_38 39 rfl (pk_mul _ _) ?_
    refine x_aloadr_n C dX3_loss_39 40 rfl rfl ?_
    refine x_iload_n C dX3_loss_40 41 rfl rfl ?_
    refine x_callV C lk_X3_378 dX3_loss_41 44 rfl [_] [_, _] rfl rfl hS.1 (Nat.le_of_ble_eq_true rfl) (by decide) (Nat.le_refl _) (Nat.le_refl _) (kX3_usedIn hS r1 hp10 (by omega) r5 hr10) ?_
    rintro _ _ _ _ ⟨rfl, rfl, rfl, rfl⟩
    rw [usedN_q r490]
    refine x_iadd C dX3_loss_44 45 rfl (nI_add _ _) ?_
    refine x_iald C dX3_loss_45 46 rfl (twA_loss hS) (twN_loss hS) rfl (show 11 * hd0 I t + us0 I t < 121 by omega) (by decide) hv ?_
    exact x_iret C dX3_loss_46 (Nat.le_refl _) (Nat.le_refl _) ⟨rfl, by simp [sp_loss, h11, et, ed, eu, ew, es], hq, hj⟩
  · refine x_icm C dX3_loss_14 15 rfl ?_
    exact x_iret C dX3_loss_15 (Nat.le_refl _) (Nat.le_refl _) ⟨rfl, by simp [sp_loss, h11], fun _ _ _ _ _ _ => rfl, jq_refl _⟩
theorem kX3_gives (hS : twS S) (hI : Tok I) (hT : ∀ t, t < tn I → TxOk I t) {t d up dw sm : Int32} : Ct w l yX3_gives cX3_gives 6 (some .int) 30 0 0 [.ref 473, .int t, .int d, .int up, .int dw, .int sm] S I J (Qf lsq (sp_gives I t d up dw sm) S I J) := by
  refine Ct.of [some _, some _, some _, some _, some _, some _] rfl (Nat.le_of_ble_eq_true rfl) (by decide) ?_
  intro κ hκ C
  subst hκ
  have hp10 := tk_p2 hI
  have ht6 := tk_t2 hI
  have hg30 := tk_g2 hI
  have hc30 := tk_c2 hI
  have hn500 := tk_n2 hI
  refine x_aloadr_n C dX3_gives_0 1 rfl rfl ?_
  refine x_iload_n C dX3_gives_1 2 rfl rfl ?_
  refine x_iload_n C dX3_gives_2 3 rfl rfl ?_
  refine x_iload_n C dX3_gives_3 4 rfl rfl ?_
  refine x_iload C dX3_gives_4 6 rfl rfl ?_
  refine x_iload C dX3_gives_6 8 rfl rfl ?_
  refine x_callV C lk_X3_398 dX3_gives_8 11 rfl [_, _, _, _, _] [] rfl rfl hS.1 (Nat.le_of_ble_eq_true rfl) (by decide) (Nat.le_refl _) (Nat.le_refl _) (kX3_isLoss hS) ?_
  rintro _ _ _ _ ⟨rfl, rfl, rfl, rfl⟩
  refine x_ifneZ C dX3_gives_11 14 16 rfl (by decide) (fun h11 => ?_) (fun h11 => ?_)
  · obtain ⟨t, d, up, dw, sm, ht, hd, hup, hdw, hsm, rfl, rfl, rfl, rfl, rfl⟩ := lo_of hI h11
    have et : nt (nI t) = t := nt_nI (by omega)
    have ed : nt (nI d) = d := nt_nI (by omega)
    have eu : nt (nI up) = up := nt_nI (by omega)
    have ew : nt (nI dw) = dw := nt_nI (by omega)
    have es : nt (nI sm) = sm := nt_nI (by omega)
    refine x_aloadr_n C dX3_gives_16 17 rfl rfl ?_
    refine x_iload_n C dX3_gives_17 18 rfl rfl ?_
    refine x_iload_n C dX3_gives_18 19 rfl rfl ?_
    refine x_iload_n C dX3_gives_19 20 rfl rfl ?_
    refine x_iload C dX3_gives_20 22 rfl rfl ?_
    refine x_iload C dX3_gives_22 24 rfl rfl ?_
    refine x_callV C lk_X3_401 dX3_gives_24 27 rfl [_, _, _, _, _] [] rfl rfl hS.1 (Nat.le_of_ble_eq_true rfl) (by decide) (Nat.le_refl _) (Nat.le_refl _) (kX3_losses hS hI (by omega) (hT t ht) hd hup hdw hsm) ?_
    rintro _ _ M J1 ⟨rfl, rfl, hq, hj, -, hv⟩
    refine x_aloadr_n C dX3_gives_27 28 rfl rfl ?_
    refine x_geti C fl_X3_395 (Or.inl rfl) dX3_gives_28 31 rfl hS.1 hv ?_
    exact x_iret C dX3_gives_31 (Nat.le_refl _) (Nat.le_refl _) ⟨rfl, by simp [sp_gives, h11, et, ed, eu, ew, es], hq, hj⟩
  · refine x_icm C dX3_gives_14 15 rfl ?_
    exact x_iret C dX3_gives_15 (Nat.le_refl _) (Nat.le_refl _) ⟨rfl, by simp [sp_gives, h11], fun _ _ _ _ _ _ => rfl, jq_refl _⟩
theorem kX3_feed (hS : twS S) (hI : nOk (I 473 41) 400) {a b c : Int64} : Ct w l yX3_feed cX3_feed 11 (some .int) 1 0 0 [.ref 473, .long a, .long b, .long c] S I J (Qm (sp_feed I a b c) S J) := by
  refine Ct.of [some _, some _, none, some _, none, some _, none, none, none, none, none] rfl (Nat.le_of_ble_eq_true rfl) (by decide) ?_
  intro κ hκ C
  subst hκ
  refine x_ic (j := 0) C dX3_feed_0 1 rfl ?_
  refine x_istore C dX3_feed_1 3 rfl [_, _, _, _, _, _, _, _, _, _, _] (by decide) rfl rfl ?_
  have hloop3 : ∀ (j k : Nat), k + j = 24 → XX w κ (Zr w κ (Qm (sp_feed I a b c) S J)) 0 0 3 [some (.ref 473), some (.long a), none, some (.long b), none, some (.long c), none, some (.int (nI k)), none, none, none] [] S (fdS I a b c k) J := by
    intro j
    induction j with
    | zero =>
      intro k  e3
      have e3 : 24 = k := Eq.symm e3
      subst e3
      refine x_iload C dX3_feed_3 5 rfl rfl ?_
      refine x_bip (j := 24) C dX3_feed_5 7 rfl (by decide) ?_
      refine x_icmpgeN C dX3_feed_7 10 99 rfl (by decide) (by omega) (by omega) (fun _ => ?_) (fun h7 => absurd h7 (by omega))
      refine x_aloadr_n C dX3_feed_99 100 rfl rfl ?_
      refine x_geti C fl_X3_246 (Or.inl rfl) dX3_feed_100 103 rfl hS.1 rfl ?_
      exact x_iret C dX3_feed_103 (Nat.le_refl _) (Nat.le_refl _) (Qm_of rfl)
    | succ j ih3 =>
      intro k  e3
      have hok := fdS_ok hI a b c k
      have hok2 := hok.2
      refine x_iload C dX3_feed_3 5 rfl rfl ?_
      refine x_bip (j := 24) C dX3_feed_5 7 rfl (by decide) ?_
      refine x_icmpgeN C dX3_feed_7 10 99 rfl (by decide) (by omega) (by omega) (fun h7 => absurd h7 (by omega)) (fun _ => ?_)
      refine x_iload C dX3_feed_10 12 rfl rfl ?_
      refine x_bip (j := 8) C dX3_feed_12 14 rfl (by decide) ?_
      refine x_icmpgeN C dX3_feed_14 17 21 rfl (by decide) (by omega) (by omega) (fun h14 => ?_) (fun h14 => ?_)
      · refine x_iload C dX3_feed_21 23 rfl rfl ?_
        refine x_bip (j := 16) C dX3_feed_23 25 rfl (by decide) ?_
        refine x_icmpgeN C dX3_feed_25 28 32 rfl (by decide) (by omega) (by omega) (fun h25 => ?_) (fun h25 => ?_)
        · refine x_lload C dX3_feed_32 34 rfl rfl ?_
          refine x_lstore C dX3_feed_34 36 rfl [_, _, _, _, _, _, _, _, _, _, _] (by decide) rfl rfl ?_
          refine x_lload C dX3_feed_36 38 rfl rfl ?_
          refine x_bip (j := 56) C dX3_feed_38 40 rfl (by decide) ?_
          refine x_bip (j := 8) C dX3_feed_40 42 rfl (by decide) ?_
          refine x_iload C dX3_feed_42 44 rfl rfl ?_
          refine x_bip (j := 8) C dX3_feed_44 46 rfl (by decide) ?_
          refine x_irem C dX3_feed_46 47 rfl (by decide) (pk_rem (by omega) (by omega) (by omega)) ?_
          refine x_imul C dX3_feed_47 48 rfl (pk_mul _ _) ?_
          refine x_isub C dX3_feed_48 49 rfl (pk_sub (by omega)) ?_
          refine x_lshr C dX3_feed_49 50 rfl rfl ?_
          refine x_l2i C dX3_feed_50 51 rfl rfl ?_
          refine x_i2b C dX3_feed_51 52 rfl (by unfold fdB; first | rw [if_pos h14] | rw [if_neg h14, if_pos h25] | rw [if_neg h14, if_neg h25] : _ = fdB a b c k) ?_
          refine x_istore C dX3_feed_52 54 rfl [_, _, _, _, _, _, _, _, _, _, _] (by decide) rfl rfl ?_
          refine x_iload C dX3_feed_54 56 rfl rfl ?_
          refine x_ifeq C dX3_feed_56 59 93 rfl (by decide) (fun h56 => ?_) (fun h56 => ?_)
          · refine x_iinc C dX3_feed_93 96 rfl [_, _, _, _, _, _, _, _, _, _, _] (nI_inc _) (by decide) rfl rfl rfl ?_
            refine x_goto C dX3_feed_96 3 (by decide) ?_
            refine x_ls [some _, some _, none, some _, none, some _, none, some _, none, none, none] ⟨rfl, rfl, rfl, rfl, rfl, trivial⟩ ?_
            refine x_eqI (by rw [fdS]; first | rw [if_pos (Or.inl h56)] | rw [if_pos (Or.inr e66)] | (rw [if_neg (not_or.mpr ⟨h56, e66⟩)]; rw [show nI (nt (fdS I a b c k 473 41) + 1) = fdS I a b c k 473 41 + nI 1 by rw [← nI_add, ← hok.1]])) (ih3 (k + 1) (by omega))
          · refine x_aloadr_n C dX3_feed_59 60 rfl rfl ?_
            refine x_geti C fl_X3_246 (Or.inl rfl) dX3_feed_60 63 rfl hS.1 hok.1 ?_
            refine x_sip (j := 400) C dX3_feed_63 66 rfl (by decide) ?_
            refine x_icmpneN C dX3_feed_66 69 72 rfl (by decide) (by omega) (by omega) (fun h66 => ?_) (fun h66 => ?_)
            · have e66 : ¬ fdS I a b c k 473 41 = nI 400 := by rw [hok.1, nI_eq (by omega) (by decide)]; exact h66
              have e67 := hok.1.symm
              refine x_aloadr_n C dX3_feed_72 73 rfl rfl ?_
              refine x_getr C fl_X3_108 (Or.inr ⟨_, rfl⟩) dX3_feed_73 76 rfl hS.1 (twR_tape hS) ?_
              refine x_aloadr_n C dX3_feed_76 77 rfl rfl ?_
              refine x_geti C fl_X3_246 (Or.inl rfl) dX3_feed_77 80 rfl hS.1 hok.1 ?_
              refine x_iload C dX3_feed_80 82 rfl rfl ?_
              refine x_bast C dX3_feed_82 83 rfl (twA_tape hS) (twN_tape hS) rfl (by omega) (by decide) (pk_nb _) ?_
              refine x_aloadr_n C dX3_feed_83 84 rfl rfl ?_
              refine x_dup C dX3_feed_84 85 rfl rfl ?_
              refine x_geti C fl_X3_246 (Or.inl rfl) dX3_feed_85 88 rfl hS.1 hok.1 ?_
              refine x_ic (j := 1) C dX3_feed_88 89 rfl ?_
              refine x_iadd C dX3_feed_89 90 rfl (nI_add _ _) ?_
              refine x_puti C fl_X3_246 (Or.inl rfl) (Or.inl rfl) dX3_feed_90 93 rfl hS.1 ?_
              skip
              refine x_iinc C dX3_feed_93 96 rfl [_, _, _, _, _, _, _, _, _, _, _] (nI_inc _) (by decide) rfl rfl rfl ?_
              refine x_goto C dX3_feed_96 3 (by decide) ?_
              refine x_ls [some _, some _, none, some _, none, some _, none, some _, none, none, none] ⟨rfl, rfl, rfl, rfl, rfl, trivial⟩ ?_
              refine x_eqI (by rw [fdS]; first | rw [if_pos (Or.inl h56)] | rw [if_pos (Or.inr e66)] | (rw [if_neg (not_or.mpr ⟨h56, e66⟩)]; rw [show nI (nt (fdS I a b c k 473 41) + 1) = fdS I a b c k 473 41 + nI 1 by rw [← nI_add, ← hok.1]])) (ih3 (k + 1) (by omega))
            · have e66 : fdS I a b c k 473 41 = nI 400 := by rw [hok.1, h66]
              refine x_goto C dX3_feed_69 93 (by decide) ?_
              refine x_iinc C dX3_feed_93 96 rfl [_, _, _, _, _, _, _, _, _, _, _] (nI_inc _) (by decide) rfl rfl rfl ?_
              refine x_goto C dX3_feed_96 3 (by decide) ?_
              refine x_ls [some _, some _, none, some _, none, some _, none, some _, none, none, none] ⟨rfl, rfl, rfl, rfl, rfl, trivial⟩ ?_
              refine x_eqI (by rw [fdS]; first | rw [if_pos (Or.inl h56)] | rw [if_pos (Or.inr e66)] | (rw [if_neg (not_or.mpr ⟨h56, e66⟩)]; rw [show nI (nt (fdS I a b c k 473 41) + 1) = fdS I a b c k 473 41 + nI 1 by rw [← nI_add, ← hok.1]])) (ih3 (k + 1) (by omega))
        · refine x_lload_n C dX3_feed_28 29 rfl rfl ?_
          refine x_goto C dX3_feed_29 34 (by decide) ?_
          refine x_lstore C dX3_feed_34 36 rfl [_, _, _, _, _, _, _, _, _, _, _] (by decide) rfl rfl ?_
          refine x_lload C dX3_feed_36 38 rfl rfl ?_
          refine x_bip (j := 56) C dX3_feed_38 40 rfl (by decide) ?_
          refine x_bip (j := 8) C dX3_feed_40 42 rfl (by decide) ?_
          refine x_iload C dX3_feed_42 44 rfl rfl ?_
          refine x_bip (j := 8) C dX3_feed_44 46 rfl (by decide) ?_
          refine x_irem C dX3_feed_46 47 rfl (by decide) (pk_rem (by omega) (by omega) (by omega)) ?_
          refine x_imul C dX3_feed_47 48 rfl (pk_mul _ _) ?_
          refine x_isub C dX3_feed_48 49 rfl (pk_sub (by omega)) ?_
          refine x_lshr C dX3_feed_49 50 rfl rfl ?_
          refine x_l2i C dX3_feed_50 51 rfl rfl ?_
          refine x_i2b C dX3_feed_51 52 rfl (by unfold fdB; first | rw [if_pos h14] | rw [if_neg h14, if_pos h25] | rw [if_neg h14, if_neg h25] : _ = fdB a b c k) ?_
          refine x_istore C dX3_feed_52 54 rfl [_, _, _, _, _, _, _, _, _, _, _] (by decide) rfl rfl ?_
          refine x_iload C dX3_feed_54 56 rfl rfl ?_
          refine x_ifeq C dX3_feed_56 59 93 rfl (by decide) (fun h56 => ?_) (fun h56 => ?_)
          · refine x_iinc C dX3_feed_93 96 rfl [_, _, _, _, _, _, _, _, _, _, _] (nI_inc _) (by decide) rfl rfl rfl ?_
            refine x_goto C dX3_feed_96 3 (by decide) ?_
            refine x_ls [some _, some _, none, some _, none, some _, none, some _, none, none, none] ⟨rfl, rfl, rfl, rfl, rfl, trivial⟩ ?_
            refine x_eqI (by rw [fdS]; first | rw [if_pos (Or.inl h56)] | rw [if_pos (Or.inr e66)] | (rw [if_neg (not_or.mpr ⟨h56, e66⟩)]; rw [show nI (nt (fdS I a b c k 473 41) + 1) = fdS I a b c k 473 41 + nI 1 by rw [← nI_add, ← hok.1]])) (ih3 (k + 1) (by omega))
          · refine x_aloadr_n C dX3_feed_59 60 rfl rfl ?_
            refine x_geti C fl_X3_246 (Or.inl rfl) dX3_feed_60 63 rfl hS.1 hok.1 ?_
            refine x_sip (j := 400) C dX3_feed_63 66 rfl (by decide) ?_
            refine x_icmpneN C dX3_feed_66 69 72 rfl (by decide) (by omega) (by omega) (fun h66 => ?_) (fun h66 => ?_)
            · have e66 : ¬ fdS I a b c k 473 41 = nI 400 := by rw [hok.1, nI_eq (by omega) (by decide)]; exact h66
              have e67 := hok.1.symm
              refine x_aloadr_n C dX3_feed_72 73 rfl rfl ?_
              refine x_getr C fl_X3_108 (Or.inr ⟨_, rfl⟩) dX3_feed_73 76 rfl hS.1 (twR_tape hS) ?_
              refine x_aloadr_n C dX3_feed_76 77 rfl rfl ?_
              refine x_geti C fl_X3_246 (Or.inl rfl) dX3_feed_77 80 rfl hS.1 hok.1 ?_
              refine x_iload C dX3_feed_80 82 rfl rfl ?_
              refine x_bast C dX3_feed_82 83 rfl (twA_tape hS) (twN_tape hS) rfl (by omega) (by decide) (pk_nb _) ?_
              refine x_aloadr_n C dX3_feed_83 84 rfl rfl ?_
              refine x_dup C dX3_feed_84 85 rfl rfl ?_
              refine x_geti C fl_X3_246 (Or.inl rfl) dX3_feed_85 88 rfl hS.1 hok.1 ?_
              refine x_ic (j := 1) C dX3_feed_88 89 rfl ?_
              refine x_iadd C dX3_feed_89 90 rfl (nI_add _ _) ?_
              refine x_puti C fl_X3_246 (Or.inl rfl) (Or.inl rfl) dX3_feed_90 93 rfl hS.1 ?_
              skip
              refine x_iinc C dX3_feed_93 96 rfl [_, _, _, _, _, _, _, _, _, _, _] (nI_inc _) (by decide) rfl rfl rfl ?_
              refine x_goto C dX3_feed_96 3 (by decide) ?_
              refine x_ls [some _, some _, none, some _, none, some _, none, some _, none, none, none] ⟨rfl, rfl, rfl, rfl, rfl, trivial⟩ ?_
              refine x_eqI (by rw [fdS]; first | rw [if_pos (Or.inl h56)] | rw [if_pos (Or.inr e66)] | (rw [if_neg (not_or.mpr ⟨h56, e66⟩)]; rw [show nI (nt (fdS I a b c k 473 41) + 1) = fdS I a b c k 473 41 + nI 1 by rw [← nI_add, ← hok.1]])) (ih3 (k + 1) (by omega))
            · have e66 : fdS I a b c k 473 41 = nI 400 := by rw [hok.1, h66]
              refine x_goto C dX3_feed_69 93 (by decide) ?_
              refine x_iinc C dX3_feed_93 96 rfl [_, _, _, _, _, _, _, _, _, _, _] (nI_inc _) (by decide) rfl rfl rfl ?_
              refine x_goto C dX3_feed_96 3 (by decide) ?_
              refine x_ls [some _, some _, none, some _, none, some _, none, some _, none, none, none] ⟨rfl, rfl, rfl, rfl, rfl, trivial⟩ ?_
              refine x_eqI (by rw [fdS]; first | rw [if_pos (Or.inl h56)] | rw [if_pos (Or.inr e66)] | (rw [if_neg (not_or.mpr ⟨h56, e66⟩)]; rw [show nI (nt (fdS I a b c k 473 41) + 1) = fdS I a b c k 473 41 + nI 1 by rw [← nI_add, ← hok.1]])) (ih3 (k + 1) (by omega))
      · refine x_lload_n C dX3_feed_17 18 rfl rfl ?_
        refine x_goto C dX3_feed_18 34 (by decide) ?_
        refine x_lstore C dX3_feed_34 36 rfl [_, _, _, _, _, _, _, _, _, _, _] (by decide) rfl rfl ?_
        refine x_lload C dX3_feed_36 38 rfl rfl ?_
        refine x_bip (j := 56) C dX3_feed_38 40 rfl (by decide) ?_
        refine x_bip (j := 8) C dX3_feed_40 42 rfl (by decide) ?_
        refine x_iload C dX3_feed_42 44 rfl rfl ?_
        refine x_bip (j := 8) C dX3_feed_44 46 rfl (by decide) ?_
        refine x_irem C dX3_feed_46 47 rfl (by decide) (pk_rem (by omega) (by omega) (by omega)) ?_
        refine x_imul C dX3_feed_47 48 rfl (pk_mul _ _) ?_
        refine x_isub C dX3_feed_48 49 rfl (pk_sub (by omega)) ?_
        refine x_lshr C dX3_feed_49 50 rfl rfl ?_
        refine x_l2i C dX3_feed_50 51 rfl rfl ?_
        refine x_i2b C dX3_feed_51 52 rfl (by unfold fdB; first | rw [if_pos h14] | rw [if_neg h14, if_pos h25] | rw [if_neg h14, if_neg h25] : _ = fdB a b c k) ?_
        refine x_istore C dX3_feed_52 54 rfl [_, _, _, _, _, _, _, _, _, _, _] (by decide) rfl rfl ?_
        refine x_iload C dX3_feed_54 56 rfl rfl ?_
        refine x_ifeq C dX3_feed_56 59 93 rfl (by decide) (fun h56 => ?_) (fun h56 => ?_)
        · refine x_iinc C dX3_feed_93 96 rfl [_, _, _, _, _, _, _, _, _, _, _] (nI_inc _) (by decide) rfl rfl rfl ?_
          refine x_goto C dX3_feed_96 3 (by decide) ?_
          refine x_ls [some _, some _, none, some _, none, some _, none, some _, none, none, none] ⟨rfl, rfl, rfl, rfl, rfl, trivial⟩ ?_
          refine x_eqI (by rw [fdS]; first | rw [if_pos (Or.inl h56)] | rw [if_pos (Or.inr e66)] | (rw [if_neg (not_or.mpr ⟨h56, e66⟩)]; rw [show nI (nt (fdS I a b c k 473 41) + 1) = fdS I a b c k 473 41 + nI 1 by rw [← nI_add, ← hok.1]])) (ih3 (k + 1) (by omega))
        · refine x_aloadr_n C dX3_feed_59 60 rfl rfl ?_
          refine x_geti C fl_X3_246 (Or.inl rfl) dX3_feed_60 63 rfl hS.1 hok.1 ?_
          refine x_sip (j := 400) C dX3_feed_63 66 rfl (by decide) ?_
          refine x_icmpneN C dX3_feed_66 69 72 rfl (by decide) (by omega) (by omega) (fun h66 => ?_) (fun h66 => ?_)
          · have e66 : ¬ fdS I a b c k 473 41 = nI 400 := by rw [hok.1, nI_eq (by omega) (by decide)]; exact h66
            have e67 := hok.1.symm
            refine x_aloadr_n C dX3_feed_72 73 rfl rfl ?_
            refine x_getr C fl_X3_108 (Or.inr ⟨_, rfl⟩) dX3_feed_73 76 rfl hS.1 (twR_tape hS) ?_
            refine x_aloadr_n C dX3_feed_76 77 rfl rfl ?_
            refine x_geti C fl_X3_246 (Or.inl rfl) dX3_feed_77 80 rfl hS.1 hok.1 ?_
            refine x_iload C dX3_feed_80 82 rfl rfl ?_
            refine x_bast C dX3_feed_82 83 rfl (twA_tape hS) (twN_tape hS) rfl (by omega) (by decide) (pk_nb _) ?_
            refine x_aloadr_n C dX3_feed_83 84 rfl rfl ?_
            refine x_dup C dX3_feed_84 85 rfl rfl ?_
            refine x_geti C fl_X3_246 (Or.inl rfl) dX3_feed_85 88 rfl hS.1 hok.1 ?_
            refine x_ic (j := 1) C dX3_feed_88 89 rfl ?_
            refine x_iadd C dX3_feed_89 90 rfl (nI_add _ _) ?_
            refine x_puti C fl_X3_246 (Or.inl rfl) (Or.inl rfl) dX3_feed_90 93 rfl hS.1 ?_
            skip
            refine x_iinc C dX3_feed_93 96 rfl [_, _, _, _, _, _, _, _, _, _, _] (nI_inc _) (by decide) rfl rfl rfl ?_
            refine x_goto C dX3_feed_96 3 (by decide) ?_
            refine x_ls [some _, some _, none, some _, none, some _, none, some _, none, none, none] ⟨rfl, rfl, rfl, rfl, rfl, trivial⟩ ?_
            refine x_eqI (by rw [fdS]; first | rw [if_pos (Or.inl h56)] | rw [if_pos (Or.inr e66)] | (rw [if_neg (not_or.mpr ⟨h56, e66⟩)]; rw [show nI (nt (fdS I a b c k 473 41) + 1) = fdS I a b c k 473 41 + nI 1 by rw [← nI_add, ← hok.1]])) (ih3 (k + 1) (by omega))
          · have e66 : fdS I a b c k 473 41 = nI 400 := by rw [hok.1, h66]
            refine x_goto C dX3_feed_69 93 (by decide) ?_
            refine x_iinc C dX3_feed_93 96 rfl [_, _, _, _, _, _, _, _, _, _, _] (nI_inc _) (by decide) rfl rfl rfl ?_
            refine x_goto C dX3_feed_96 3 (by decide) ?_
            refine x_ls [some _, some _, none, some _, none, some _, none, some _, none, none, none] ⟨rfl, rfl, rfl, rfl, rfl, trivial⟩ ?_
            refine x_eqI (by rw [fdS]; first | rw [if_pos (Or.inl h56)] | rw [if_pos (Or.inr e66)] | (rw [if_neg (not_or.mpr ⟨h56, e66⟩)]; rw [show nI (nt (fdS I a b c k 473 41) + 1) = fdS I a b c k 473 41 + nI 1 by rw [← nI_add, ← hok.1]])) (ih3 (k + 1) (by omega))
  exact hloop3 24 0 (Nat.zero_add _)
theorem kX3_townAt (hS : twS S) {k : Int32} {T : Nat} (hT : T < 6) (h1 : k < I 484 T + I 483 T) (h2 : ∀ t, t < T → ¬ k < I 484 t + I 483 t) : Ct w l yX3_townAt cX3_townAt 3 (some .int) 1 0 0 [.ref 473, .int k] S I J (Qe (some (.int (nI T))) S I J) := by
  refine Ct.of [some _, some _, none] rfl (Nat.le_of_ble_eq_true rfl) (by decide) ?_
  intro κ hκ C
  subst hκ
  have hl : ∀ (j t : Nat), t + j = T → XX w κ (Zr w κ (Qe (some (.int (nI T))) S I J)) 0 0 2 [some (.ref 473), some (.int k), some (.int (nI t))] [] S I J := by
    intro j
    induction j with
    | zero =>
      intro t ht
      have ht : T = t := Eq.symm ht
      subst ht
      refine x_iload_n C dX3_townAt_2 3 rfl rfl ?_
      refine x_aloadr_n C dX3_townAt_3 4 rfl rfl ?_
      refine x_getr C fl_X3_48 (Or.inr ⟨_, rfl⟩) dX3_townAt_4 7 rfl hS.1 (twR_first hS) ?_
      refine x_iload_n C dX3_townAt_7 8 rfl rfl ?_
      refine x_iald C dX3_townAt_8 9 rfl (twA_first hS) (twN_first hS) rfl (by omega) (by decide) rfl ?_
      refine x_aloadr_n C dX3_townAt_9 10 rfl rfl ?_
      refine x_getr C fl_X3_45 (Or.inr ⟨_, rfl⟩) dX3_townAt_10 13 rfl hS.1 (twR_long0 hS) ?_
      refine x_iload_n C dX3_townAt_13 14 rfl rfl ?_
      refine x_iald C dX3_townAt_14 15 rfl (twA_long0 hS) (twN_long0 hS) rfl (by omega) (by decide) rfl ?_
      refine x_iadd C dX3_townAt_15 16 rfl rfl ?_
      refine x_icmplt C dX3_townAt_16 19 25 rfl (by decide) (fun _ => ?_) (fun h16 => absurd h16 (not_not_intro h1))
      refine x_iload_n C dX3_townAt_25 26 rfl rfl ?_
      exact x_iret C dX3_townAt_26 (Nat.le_refl _) (Nat.le_refl _) ⟨rfl, rfl, rfl, rfl⟩
    | succ j ih =>
      intro t ht
      refine x_iload_n C dX3_townAt_2 3 rfl rfl ?_
      refine x_aloadr_n C dX3_townAt_3 4 rfl rfl ?_
      refine x_getr C fl_X3_48 (Or.inr ⟨_, rfl⟩) dX3_townAt_4 7 rfl hS.1 (twR_first hS) ?_
      refine x_iload_n C dX3_townAt_7 8 rfl rfl ?_
      refine x_iald C dX3_townAt_8 9 rfl (twA_first hS) (twN_first hS) rfl (by omega) (by decide) rfl ?_
      refine x_aloadr_n C dX3_townAt_9 10 rfl rfl ?_
      refine x_getr C fl_X3_45 (Or.inr ⟨_, rfl⟩) dX3_townAt_10 13 rfl hS.1 (twR_long0 hS) ?_
      refine x_iload_n C dX3_townAt_13 14 rfl rfl ?_
      refine x_iald C dX3_townAt_14 15 rfl (twA_long0 hS) (twN_long0 hS) rfl (by omega) (by decide) rfl ?_
      refine x_iadd C dX3_townAt_15 16 rfl rfl ?_
      refine x_icmplt C dX3_townAt_16 19 25 rfl (by decide) (fun h16 => absurd h16 (h2 t (by omega))) (fun _ => ?_)
      refine x_iinc C dX3_townAt_19 22 rfl [_, _, _] (nI_inc _) (by decide) rfl rfl rfl ?_
      refine x_goto C dX3_townAt_22 2 (by decide) ?_
      exact ih (t + 1) (by omega)
  refine x_ic (j := 0) C dX3_townAt_0 1 rfl ?_
  refine x_istore_n C dX3_townAt_1 2 rfl [_, _, _] (by decide) rfl rfl ?_
  exact hl T 0 (Nat.zero_add _)
end Tw15
