/-! the twin: a night -/
def amI (cost : Int32) (two first : Bool) : Int32 := if two then (if first then cost - cost / nI 2 else cost / nI 2) else cost
def owP (c s : Nat) (cost f : Int32) (two : Bool) (M : Mi) : Nat → Mi
  | 0 => M
  | p + 1 => if s.testBit p then owS (owP c s cost f two M p) c p (amI cost two (decide (cnt s.testBit p = 0))) f else owP c s cost f two M p
def owR (I : Mi) (t c : Nat) (f : Int32) (M : Mi) : Nat → Mi
  | 0 => M
  | r + 1 => owP c (si I (pn I) t (nI r)) (prI I t r) f (decide (cnt (si I (pn I) t (nI r)).testBit 10 = 2)) (owR I t c f M r) (pn I)
def lyS (I : Mi) (t c : Nat) (M : Mi) : Nat → Mi
  | 0 => M
  | p + 1 => sto (lyS I t c M p) 495 (10 * c + p) (I 490 (10 * t + p))
def ngS (I M : Mi) (t c : Nat) (f b : Int32) : Mi := sto (owR I t c f (lyS I t c (sto M 496 c b) 10) (rn I t)) 473 13 (I 473 13 + nI 1)
def tA (I : Mi) : Nat := runE (fun t => !decide (I 473 13 < I 484 t + I 483 t)) 6 0
def sp_night (I : Mi) : Int32 × Mi :=
  if I 473 13 = I 473 12 ∨ I 473 14 < I 473 15 + I 473 13 then no1 I
  else if sp_right I (nI (tA I)) then (I 473 13, ngS I I (tA I) (cl I) (tol (rulesOf I (tA I)) (nI 2) (stI I (tA I))) (biI I (tA I) (freeN I (tA I)))) else no1 I
theorem owP_n {c s : Nat} {cost f : Int32} {two : Bool} {M : Mi} {b : Nat} (h : b ≠ 497) : ∀ p, owP c s cost f two M p b = M b
  | 0 => rfl
  | p + 1 => by
    rw [owP]
    split
    · unfold owS; rw [sto_n _ _ _ h, owP_n h p]
    · exact owP_n h p
theorem owR_n {I : Mi} {t c : Nat} {f : Int32} {M : Mi} {b : Nat} (h : b ≠ 497) : ∀ r, owR I t c f M r b = M b
  | 0 => rfl
  | r + 1 => by rw [owR, owP_n h, owR_n h r]
theorem lyS_n {I : Mi} {t c : Nat} {M : Mi} {b : Nat} (h : b ≠ 495) : ∀ p, lyS I t c M p b = M b
  | 0 => rfl
  | p + 1 => by rw [lyS, sto_n _ _ _ h, lyS_n h p]
theorem gq_owS {A B : Mi} (h : gq A B) (c p : Nat) (s f : Int32) : gq (owS A c p s f) (owS B c p s f) := by
  unfold owS
  rw [h 497 p rfl, h 494 (10 * c + p) rfl]
  exact gq_sto h _ _ _
theorem gq_owP {A B : Mi} (h : gq A B) (c s : Nat) (cost f : Int32) (two : Bool) : ∀ p, gq (owP c s cost f two A p) (owP c s cost f two B p)
  | 0 => h
  | p + 1 => by
    rw [owP, owP]
    split
    · exact gq_owS (gq_owP h c s cost f two p) _ _ _ _
    · exact gq_owP h c s cost f two p
theorem gq_owR {A B : Mi} (h : gq A B) (I : Mi) (t c : Nat) (f : Int32) : ∀ r, gq (owR I t c f A r) (owR I t c f B r)
  | 0 => h
  | r + 1 => gq_owP (gq_owR h I t c f r) _ _ _ _ _ _
theorem gq_lyS {A B : Mi} (h : gq A B) (I : Mi) (t c : Nat) : ∀ p, gq (lyS I t c A p) (lyS I t c B p)
  | 0 => h
  | p + 1 => gq_sto (gq_lyS h I t c p) _ _ _
theorem gq_ngS {A B : Mi} (h : gq A B) (I : Mi) (t c : Nat) (f b : Int32) : gq (ngS I A t c f b) (ngS I B t c f b) := gq_sto (gq_owR (gq_lyS (gq_sto h _ _ _) _ _ _ _) _ _ _ _ _) _ _ _
theorem Tok_q {A B : Mi} (h : nwq A B) (hB : Tok B) : Tok A := by
  obtain ⟨h1, h2, h3, h4, h5, h6, h7, h8⟩ := hB
  refine ⟨?_, ?_, ?_, ?_, ?_, fun t ht => ?_, ?_, ?_⟩
  · rw [h 473 1 (by decide) (by omega)]; exact h1
  · rw [h 473 11 (by decide) (by omega)]; exact h2
  · rw [h 473 12 (by decide) (by omega)]; exact h3
  · rw [h 473 13 (by decide) (by omega)]; exact h4
  · rw [h 473 26 (by decide) (by omega)]; exact h5
  · rw [h 485 t (by decide) (by omega)]; exact h6 t ht
  · rw [h 473 41 (by decide) (by omega)]; exact h7
  · rw [h 473 63 (by decide) (by omega)]; exact h8
theorem nw_bi {A B : Mi} (h : nwq A B) (t : Nat) : biI A t (freeN A t) = biI B t (freeN B t) := by
  have r1 := h 473 1 (by decide) (by omega)
  have r14 := h 473 14 (by decide) (by omega)
  have r15 := h 473 15 (by decide) (by omega)
  have r16 := h 473 16 (by decide) (by omega)
  have r484 := h.row (b := 484) (by decide) (by decide)
  have r485 := h.row (b := 485) (by decide) (by decide)
  have r488 := h.row (b := 488) (by decide) (by decide)
  have r489 := h.row (b := 489) (by decide) (by decide)
  have r490 := h.row (b := 490) (by decide) (by decide)
  have r504 := h.row (b := 504) (by decide) (by decide)
  have r505 := h.row (b := 505) (by decide) (by decide)
  have eR := (TxOk_q r504 r505 t).2
  have ep : pn A = pn B := by show nt _ = nt _; rw [r1]
  have er : rn A t = rn B t := by show nt _ = nt _; rw [r485]
  have eS : stI A t = stI B t := by
    funext k
    unfold stI
    rw [r14, r15, r16, r484, er, ep, heldN_q r489, usedN_q r490, peopN_q r490]
  have eF : freeN A t = freeN B t := by unfold freeN; rw [eR, eS]
  have e0 : fr0 A t = fr0 B t := by funext r; unfold fr0; rw [si_q r490, ep]
  rw [eF]
  unfold biI
  rw [e0, er, show prI A t = prI B t by unfold prI; rw [r488]]
theorem tA_lt {I : Mi} {t : Nat} (h : t < tA I) : ¬ I 473 13 < I 484 t + I 483 t := by
  have := runE_in (P := fun t => !decide (I 473 13 < I 484 t + I 483 t)) 6 0 t (Nat.zero_le _) h
  simpa using this
section Tw17
variable {w : Wd} {l : Launch} {S : Sh} {I : Mi} {J : Ml}
theorem kX3_night (hS : twS S) (hI : Tok I) (hT : ∀ t, t < tn I → TxOk I t) (hA : ¬ I 473 13 = I 473 12 → cl I < 30 ∧ tA I < tn I ∧ I 473 13 < I 484 (tA I) + I 483 (tA I)) : Ct w l yX3_night cX3_night 10 (some .int) 31 0 0 [.ref 473] S I J (Qg (sp_night I) S J) := by
  refine Ct.of [some _, none, none, none, none, none, none, none, none, none] rfl (Nat.le_of_ble_eq_true rfl) (by decide) ?_
  intro κ hκ C
  subst hκ
  have hp10 := tk_p2 hI
  have ht6 := tk_t2 hI
  have hg30 := tk_g2 hI
  have hc30 := tk_c2 hI
  have hn500 := tk_n2 hI
  refine x_aloadr_n C dX3_night_0 1 rfl rfl ?_
  refine x_geti C fl_X3_167 (Or.inl rfl) dX3_night_1 4 rfl hS.1 rfl ?_
  refine x_aloadr_n C dX3_night_4 5 rfl rfl ?_
  refine x_geti C fl_X3_192 (Or.inl rfl) dX3_night_5 8 rfl hS.1 rfl ?_
  refine x_icmpeq C dX3_night_8 11 27 rfl (by decide) (fun h8 => ?_) (fun h8 => ?_)
  · refine x_icm C dX3_night_27 28 rfl ?_
    exact x_iret C dX3_night_28 (Nat.le_refl _) (Nat.le_refl _) (Qg_of (A := I) (by simp [sp_night, no1, h8]) (gq_refl _) (jq_refl _))
  · refine x_aloadr_n C dX3_night_11 12 rfl rfl ?_
    refine x_geti C fl_X3_42 (Or.inl rfl) dX3_night_12 15 rfl hS.1 rfl ?_
    refine x_aloadr_n C dX3_night_15 16 rfl rfl ?_
    refine x_geti C fl_X3_167 (Or.inl rfl) dX3_night_16 19 rfl hS.1 rfl ?_
    refine x_iadd C dX3_night_19 20 rfl rfl ?_
    refine x_aloadr_n C dX3_night_20 21 rfl rfl ?_
    refine x_geti C fl_X3_183 (Or.inl rfl) dX3_night_21 24 rfl hS.1 rfl ?_
    refine x_icmple C dX3_night_24 27 29 rfl (by decide) (fun h24 => ?_) (fun h24 => ?_)
    · obtain ⟨hcl, htA, hA2⟩ := hA h8
      have hr10 := tk_r2 hI (show tA I < 6 by omega)
      generalize hTT : tA I = T at *
      refine x_aloadr_n C dX3_night_29 30 rfl rfl ?_
      refine x_aloadr_n C dX3_night_30 31 rfl rfl ?_
      refine x_geti C fl_X3_167 (Or.inl rfl) dX3_night_31 34 rfl hS.1 rfl ?_
      refine x_callV C lk_X3_432 dX3_night_34 37 rfl [_] [] rfl rfl hS.1 (Nat.le_of_ble_eq_true rfl) (by decide) (Nat.le_refl _) (Nat.le_refl _) (kX3_townAt hS (T := T) (by omega) hA2 (fun t ht => tA_lt (by rw [hTT]; exact ht))) ?_
      rintro _ _ _ _ ⟨rfl, rfl, rfl, rfl⟩
      refine x_istore_n C dX3_night_37 38 rfl [_, _, _, _, _, _, _, _, _, _] (by decide) rfl rfl ?_
      refine x_aloadr_n C dX3_night_38 39 rfl rfl ?_
      refine x_iload_n C dX3_night_39 40 rfl rfl ?_
      refine x_callV C lk_X3_435 dX3_night_40 43 rfl [_] [] rfl rfl hS.1 (Nat.le_of_ble_eq_true rfl) (by decide) (Nat.le_refl _) (Nat.le_refl _) (kX3_right hS hI) ?_
      rintro _ _ _ _ ⟨rfl, rfl, rfl, rfl⟩
      refine x_ifneZ C dX3_night_43 46 48 rfl (by decide) (fun h43 => ?_) (fun h43 => ?_)
      · refine x_aloadr_n C dX3_night_48 49 rfl rfl ?_
        refine x_geti C fl_X3_167 (Or.inl rfl) dX3_night_49 52 rfl hS.1 (tk_c (I := I) hI) ?_
        refine x_istore_n C dX3_night_52 53 rfl [_, _, _, _, _, _, _, _, _, _] (by decide) rfl rfl ?_
        refine x_aloadr_n C dX3_night_53 54 rfl rfl ?_
        refine x_iload_n C dX3_night_54 55 rfl rfl ?_
        refine x_ic (j := 2) C dX3_night_55 56 rfl ?_
        refine x_callV C lk_X3_387 dX3_night_56 59 rfl [_, _] [] rfl rfl hS.1 (Nat.le_of_ble_eq_true rfl) (by decide) (Nat.le_refl _) (Nat.le_refl _) (kX3_now hS hI (by omega) (hT T htA)) ?_
        rintro _ _ M1 J1 ⟨rfl, rfl, hf1, hj1⟩
        have hI1 := Tok_q hf1 hI
        have hTq := TxOk_q (hf1.row (b := 504) (by decide) (by decide)) (hf1.row (b := 505) (by decide) (by decide)) T
        refine x_istore_n C dX3_night_59 60 rfl [_, _, _, _, _, _, _, _, _, _] (by decide) rfl rfl ?_
        refine x_aloadr_n C dX3_night_60 61 rfl rfl ?_
        refine x_getr C fl_X3_84 (Or.inr ⟨_, rfl⟩) dX3_night_61 64 rfl hS.1 (twR_bills hS) ?_
        refine x_iload_n C dX3_night_64 65 rfl rfl ?_
        refine x_aloadr_n C dX3_night_65 66 rfl rfl ?_
        refine x_iload_n C dX3_night_66 67 rfl rfl ?_
        refine x_callV C lk_X3_438 dX3_night_67 70 rfl [_] [_, _] rfl rfl hS.1 (Nat.le_of_ble_eq_true rfl) (by decide) (Nat.le_refl _) (Nat.le_refl _) (kX3_billOf hS hI1 (by omega) (hTq.1.mpr (hT T htA))) ?_
        rintro _ _ M2 J2 ⟨rfl, rfl, hf2, hj2⟩
        rw [nw_bi hf1]
        refine x_iast C dX3_night_70 71 rfl (twA_bills hS) (twN_bills hS) rfl (by omega) (by decide) ?_
        refine x_ic (j := 0) C dX3_night_71 72 rfl ?_
        refine x_istore C dX3_night_72 74 rfl [_, _, _, _, _, _, _, _, _, _] (by decide) rfl rfl ?_
        have hM2 : bfq M2 I := fun b i q1 q2 q3 => (hf2 b i q1 q2 q3).trans (hf1 b i q1 q3)
        have hjj : jq J2 J := jq_trans hj2 hj1
        have m485 := hM2.row (b := 485) (by decide) (by decide) (by decide)
        have m488 := hM2.row (b := 488) (by decide) (by decide) (by decide)
        have m490 := hM2.row (b := 490) (by decide) (by decide) (by decide)
        have m1 : M2 473 1 = nI (pn I) := (hM2 473 1 (by decide) (by decide) (by omega)).trans (tk_p hI)
        have m13 : M2 473 13 = nI (cl I) := (hM2 473 13 (by decide) (by decide) (by omega)).trans (tk_c hI)
        generalize hf : tol (rulesOf I T) (nI 2) (stI I T) = f at *
        generalize hb : biI I T (freeN I T) = bl at *
        have hloop74 : ∀ (j p : Nat), p + j = 10 → XX w κ (Zr w κ (Qg (sp_night I) S J)) 0 0 74 [some (.ref 473), some (.int (nI T)), some (.int (nI (cl I))), some (.int f), some (.int (nI p)), none, none, none, none, none] [] S (lyS I T (cl I) (sto M2 496 (cl I) bl) p) J2 := by
          intro j
          induction j with
          | zero =>
            intro p  e74
            have e74 : 10 = p := Eq.symm e74
            subst e74
            refine x_iload C dX3_night_74 76 rfl rfl ?_
            refine x_bip (j := 10) C dX3_night_76 78 rfl (by decide) ?_
            refine x_icmpgeN C dX3_night_78 81 111 rfl (by decide) (by omega) (by omega) (fun _ => ?_) (fun h78 => absurd h78 (by omega))
            refine x_ic (j := 0) C dX3_night_111 112 rfl ?_
            refine x_istore C dX3_night_112 114 rfl [_, _, _, _, _, _, _, _, _, _] (by decide) rfl rfl ?_
            have hloop114 : ∀ (j r : Nat), r + j = (rn I T) → XX w κ (Zr w κ (Qg (sp_night I) S J)) 0 0 114 [some (.ref 473), some (.int (nI T)), some (.int (nI (cl I))), some (.int f), some (.int (nI r)), none, none, none, none, none] [] S (owR I T (cl I) f (lyS I T (cl I) (sto M2 496 (cl I) bl) 10) r) J2 := by
              intro j
              induction j with
              | zero =>
                intro r  e114
                have e114 : (rn I T) = r := Eq.symm e114
                subst e114
                have hfin : gq (sto (owR I T (cl I) f (lyS I T (cl I) (sto M2 496 (cl I) bl) 10) (rn I T)) 473 13 (nI (cl I + 1))) (ngS I I T (cl I) f bl) := by
                  have := gq_ngS hM2.g I T (cl I) f bl
                  unfold ngS at this ⊢
                  rw [tk_c hI, nI_add] at this
                  rw [tk_c hI, nI_add]
                  exact this
                refine x_iload C dX3_night_114 116 rfl rfl ?_
                refine x_aloadr_n C dX3_night_116 117 rfl rfl ?_
                refine x_getr C fl_X3_51 (Or.inr ⟨_, rfl⟩) dX3_night_117 120 rfl hS.1 (twR_rooms hS) ?_
                refine x_iload_n C dX3_night_120 121 rfl rfl ?_
                refine x_iald C dX3_night_121 122 rfl (twA_rooms hS) (twN_rooms hS) rfl (by omega) (by decide) ((congrFun ((owR_n (b := 485) (by decide) _).trans (lyS_n (by decide) _)) T).trans ((show sto M2 496 (cl I) bl 485 T = I 485 T from congrFun m485 T).trans (tk_r hI (by omega)))) ?_
                refine x_icmpgeN C dX3_night_122 125 244 rfl (by decide) (by omega) (by omega) (fun _ => ?_) (fun h122 => absurd h122 (by omega))
                refine x_aloadr_n C dX3_night_244 245 rfl rfl ?_
                refine x_dup C dX3_night_245 246 rfl rfl ?_
                refine x_geti C fl_X3_167 (Or.inl rfl) dX3_night_246 249 rfl hS.1 ((congrFun ((owR_n (b := 473) (by decide) _).trans (lyS_n (by decide) _)) 13).trans (show sto M2 496 (cl I) bl 473 13 = nI (cl I) from m13)) ?_
                refine x_ic (j := 1) C dX3_night_249 250 rfl ?_
                refine x_iadd C dX3_night_250 251 rfl (nI_add _ _) ?_
                refine x_puti C fl_X3_167 (Or.inl rfl) (Or.inl rfl) dX3_night_251 254 rfl hS.1 ?_
                refine x_iload_n C dX3_night_254 255 rfl rfl ?_
                exact x_iret C dX3_night_255 (Nat.le_refl _) (Nat.le_refl _) (Qg_of (A := ngS I I T (cl I) f bl) (by unfold sp_night; rw [if_neg (not_or.mpr ⟨h8, h24⟩), hTT, if_pos h43, hf, hb, tk_c hI]) hfin hjj)
              | succ j ih114 =>
                intro r  e114
                have w5 : owR I T (cl I) f (lyS I T (cl I) (sto M2 496 (cl I) bl) 10) r 485 T = nI (rn I T) := (congrFun ((owR_n (b := 485) (by decide) _).trans (lyS_n (by decide) _)) T).trans ((show sto M2 496 (cl I) bl 485 T = I 485 T from congrFun m485 T).trans (tk_r hI (by omega)))
                have w490 : owR I T (cl I) f (lyS I T (cl I) (sto M2 496 (cl I) bl) 10) r 490 = I 490 := ((owR_n (b := 490) (by decide) _).trans (lyS_n (by decide) _)).trans ((sto_n _ _ _ (by decide)).trans m490)
                have w488 : owR I T (cl I) f (lyS I T (cl I) (sto M2 496 (cl I) bl) 10) r 488 = I 488 := ((owR_n (b := 488) (by decide) _).trans (lyS_n (by decide) _)).trans ((sto_n _ _ _ (by decide)).trans m488)
                have w1 : owR I T (cl I) f (lyS I T (cl I) (sto M2 496 (cl I) bl) 10) r 473 1 = nI (pn I) := (congrFun ((owR_n (b := 473) (by decide) _).trans (lyS_n (by decide) _)) 1).trans m1
                have hsi := si_lt I (n := pn I) T (nI r) hp10
                generalize hM3 : owR I T (cl I) f (lyS I T (cl I) (sto M2 496 (cl I) bl) 10) r = M3 at *
                refine x_iload C dX3_night_114 116 rfl rfl ?_
                refine x_aloadr_n C dX3_night_116 117 rfl rfl ?_
                refine x_getr C fl_X3_51 (Or.inr ⟨_, rfl⟩) dX3_night_117 120 rfl hS.1 (twR_rooms hS) ?_
                refine x_iload_n C dX3_night_120 121 rfl rfl ?_
                refine x_iald C dX3_night_121 122 rfl (twA_rooms hS) (twN_rooms hS) rfl (by omega) (by decide) w5 ?_
                refine x_icmpgeN C dX3_night_122 125 244 rfl (by decide) (by omega) (by omega) (fun h122 => absurd h122 (by omega)) (fun _ => ?_)
                refine x_aloadr_n C dX3_night_125 126 rfl rfl ?_
                refine x_iload_n C dX3_night_126 127 rfl rfl ?_
                refine x_iload C dX3_night_127 129 rfl rfl ?_
                refine x_callV C lk_X3_211 dX3_night_129 132 rfl [_, _] [] rfl rfl hS.1 (Nat.le_of_ble_eq_true rfl) (by decide) (Nat.le_refl _) (Nat.le_refl _) (kX3_setIn hS w1 hp10 (by omega)) ?_
                rintro _ _ _ _ ⟨rfl, rfl, rfl, rfl⟩
                rw [si_q w490]
                refine x_istore C dX3_night_132 134 rfl [_, _, _, _, _, _, _, _, _, _] (by decide) rfl rfl ?_
                refine x_aloadr_n C dX3_night_134 135 rfl rfl ?_
                refine x_getr C fl_X3_60 (Or.inr ⟨_, rfl⟩) dX3_night_135 138 rfl hS.1 (twR_price hS) ?_
                refine x_bip (j := 10) C dX3_night_138 140 rfl (by decide) ?_
                refine x_iload_n C dX3_night_140 141 rfl rfl ?_
                refine x_imul C dX3_night_141 142 rfl (pk_mul _ _) ?_
                refine x_iload C dX3_night_142 144 rfl rfl ?_
                refine x_iadd C dX3_night_144 145 rfl (nI_add _ _) ?_
                refine x_iald C dX3_night_145 146 rfl (twA_price hS) (twN_price hS) rfl (by omega) (by decide) (congrFun w488 _) ?_
                refine x_istore C dX3_night_146 148 rfl [_, _, _, _, _, _, _, _, _, _] (by decide) rfl rfl ?_
                refine x_iload C dX3_night_148 150 rfl rfl ?_
                refine x_callS C lk_X3_243 dX3_night_150 153 rfl [_] [] rfl rfl (Nat.le_of_ble_eq_true rfl) (by decide) (Nat.le_refl _) (Nat.le_refl _) (kX3_sizeOf (by omega)) ?_
                rintro _ _ _ _ ⟨rfl, rfl, rfl, rfl⟩
                refine x_ic (j := 2) C dX3_night_153 154 rfl ?_
                apply x_jNZ0 (pj := 162) (fun kt kf => x_icmpneN C dX3_night_154 157 161 rfl (by decide) (by have := cnt_le (si I (pn I) T (nI r)).testBit 10; omega) (by omega) kt kf)
                case ht =>
                  intro K
                  refine x_ic (j := 0) C dX3_night_161 162 rfl ?_
                  exact K
                case hf =>
                  intro K
                  refine x_ic (j := 1) C dX3_night_157 158 rfl ?_
                  refine x_goto C dX3_night_158 162 (by decide) ?_
                  exact K
                refine x_istore C dX3_night_162 164 rfl [_, _, _, _, _, _, _, _, _, _] (by decide) rfl rfl ?_
                refine x_ic (j := 1) C dX3_night_164 165 rfl ?_
                refine x_istore C dX3_night_165 167 rfl [_, _, _, _, _, _, _, _, _, _] (by decide) rfl rfl ?_
                refine x_ic (j := 0) C dX3_night_167 168 rfl ?_
                refine x_istore C dX3_night_168 170 rfl [_, _, _, _, _, _, _, _, _, _] (by decide) rfl rfl ?_
                generalize hss : si I (pn I) T (nI r) = s at *
                have hFL : ∀ (j p : Nat) (fi : Int32), p + j = pn I → fi = bz (decide (cnt s.testBit p = 0)) → XX w κ (Zr w κ (Qg (sp_night I) S J)) 0 0 170 [some (.ref 473), some (.int (nI T)), some (.int (nI (cl I))), some (.int f), some (.int (nI r)), some (.int (nI s)), some (.int (prI I T r)), some (.int (bz (decide (cnt s.testBit 10 = 2)))), some (.int fi), some (.int (nI p))] [] S (owP (cl I) s (prI I T r) f (decide (cnt s.testBit 10 = 2)) M3 p) J2 := by
                  intro j
                  induction j with
                  | zero =>
                    intro p fi hp hfi
                    have hp : pn I = p := Eq.symm hp
                    subst hp
                    refine x_iload C dX3_night_170 172 rfl rfl ?_
                    refine x_aloadr_n C dX3_night_172 173 rfl rfl ?_
                    refine x_geti C fl_X3_157 (Or.inl rfl) dX3_night_173 176 rfl hS.1 ((congrFun (owP_n (b := 473) (by decide) _) 1).trans w1) ?_
                    refine x_icmpgeN C dX3_night_176 179 238 rfl (by decide) (by omega) (by omega) (fun _ => ?_) (fun h176 => absurd h176 (by omega))
                    refine x_iinc C dX3_night_238 241 rfl [_, _, _, _, _, _, _, _, _, _] (nI_inc _) (by decide) rfl rfl rfl ?_
                    refine x_goto C dX3_night_241 114 (by decide) ?_
                    refine x_ls [some _, some _, some _, some _, some _, none, none, none, none, none] ⟨rfl, rfl, rfl, rfl, rfl, trivial⟩ ?_
                    refine x_eqI ?_ (ih114 (r + 1) (by omega))
                    rw [owR, hss, hM3]
                  | succ j ihp =>
                    intro p fi hp hfi
                    subst hfi
                    refine x_iload C dX3_night_170 172 rfl rfl ?_
                    refine x_aloadr_n C dX3_night_172 173 rfl rfl ?_
                    refine x_geti C fl_X3_157 (Or.inl rfl) dX3_night_173 176 rfl hS.1 ((congrFun (owP_n (b := 473) (by decide) _) 1).trans w1) ?_
                    refine x_icmpgeN C dX3_night_176 179 238 rfl (by decide) (by omega) (by omega) (fun h176 => absurd h176 (by omega)) (fun _ => ?_)
                    refine x_iload C dX3_night_179 181 rfl rfl ?_
                    refine x_iload C dX3_night_181 183 rfl rfl ?_
                    refine x_ishr C dX3_night_183 184 rfl (nI_shrp _ _ (by omega) (by omega)) ?_
                    refine x_ic (j := 1) C dX3_night_184 185 rfl ?_
                    refine x_iand C dX3_night_185 186 rfl (nI_bit _ _) ?_
                    refine x_ifneN C dX3_night_186 189 192 rfl (by decide) (by have := bit_lt s p; omega) (fun h186 => ?_) (fun h186 => ?_)
                    · have e186 : s.testBit p = true := by cases e : s.testBit p with | true => rfl | false => exact absurd ((bit_0 s p).mpr e) h186
                      refine x_aloadr_n C dX3_night_192 193 rfl rfl ?_
                      refine x_iload_n C dX3_night_193 194 rfl rfl ?_
                      refine x_iload C dX3_night_194 196 rfl rfl ?_
                      refine x_iload C dX3_night_196 198 rfl rfl ?_
                      refine x_ifneZ C dX3_night_198 201 206 rfl (by decide) (fun h198 => ?_) (fun h198 => ?_)
                      · refine x_iload C dX3_night_206 208 rfl rfl ?_
                        refine x_ifeqZ C dX3_night_208 211 221 rfl (by decide) (fun h208 => ?_) (fun h208 => ?_)
                        · refine x_iload C dX3_night_221 223 rfl rfl ?_
                          refine x_ic (j := 2) C dX3_night_223 224 rfl ?_
                          refine x_idiv C dX3_night_224 225 rfl (by decide) rfl ?_
                          refine x_iload_n C dX3_night_225 226 rfl rfl ?_
                          refine x_callV C lk_X3_441 dX3_night_226 229 rfl [_, _, _, _] [] rfl rfl hS.1 (Nat.le_of_ble_eq_true rfl) (by decide) (Nat.le_refl _) (Nat.le_refl _) (kX3_owes hS (by omega) (by omega)) ?_
                          rintro _ _ _ _ ⟨rfl, rfl, rfl, rfl⟩
                          refine x_ic (j := 0) C dX3_night_229 230 rfl ?_
                          refine x_istore C dX3_night_230 232 rfl [_, _, _, _, _, _, _, _, _, _] (by decide) rfl rfl ?_
                          refine x_iinc C dX3_night_232 235 rfl [_, _, _, _, _, _, _, _, _, _] (nI_inc _) (by decide) rfl rfl rfl ?_
                          refine x_goto C dX3_night_235 170 (by decide) ?_
                          first
                            | (refine x_eqI (I' := owP (cl I) s (prI I T r) f (decide (cnt s.testBit 10 = 2)) M3 (p + 1)) (by rw [owP, if_neg (by rw [e186]; decide)]) (ihp (p + 1) _ (by omega) (by rw [cnt_f e186])))
                            | (refine x_eqI (I' := owP (cl I) s (prI I T r) f (decide (cnt s.testBit 10 = 2)) M3 (p + 1)) (by rw [owP, if_pos e186]; simp only [amI, h8, h24, hTT, h43, h186, h198, h208]; try simp) (ihp (p + 1) _ (by omega) (by rw [cnt_t e186]; simp [bzf])))
                        · refine x_iload C dX3_night_211 213 rfl rfl ?_
                          refine x_iload C dX3_night_213 215 rfl rfl ?_
                          refine x_ic (j := 2) C dX3_night_215 216 rfl ?_
                          refine x_idiv C dX3_night_216 217 rfl (by decide) rfl ?_
                          refine x_isub C dX3_night_217 218 rfl rfl ?_
                          refine x_goto C dX3_night_218 225 (by decide) ?_
                          refine x_iload_n C dX3_night_225 226 rfl rfl ?_
                          refine x_callV C lk_X3_441 dX3_night_226 229 rfl [_, _, _, _] [] rfl rfl hS.1 (Nat.le_of_ble_eq_true rfl) (by decide) (Nat.le_refl _) (Nat.le_refl _) (kX3_owes hS (by omega) (by omega)) ?_
                          rintro _ _ _ _ ⟨rfl, rfl, rfl, rfl⟩
                          refine x_ic (j := 0) C dX3_night_229 230 rfl ?_
                          refine x_istore C dX3_night_230 232 rfl [_, _, _, _, _, _, _, _, _, _] (by decide) rfl rfl ?_
                          refine x_iinc C dX3_night_232 235 rfl [_, _, _, _, _, _, _, _, _, _] (nI_inc _) (by decide) rfl rfl rfl ?_
                          refine x_goto C dX3_night_235 170 (by decide) ?_
                          first
                            | (refine x_eqI (I' := owP (cl I) s (prI I T r) f (decide (cnt s.testBit 10 = 2)) M3 (p + 1)) (by rw [owP, if_neg (by rw [e186]; decide)]) (ihp (p + 1) _ (by omega) (by rw [cnt_f e186])))
                            | (refine x_eqI (I' := owP (cl I) s (prI I T r) f (decide (cnt s.testBit 10 = 2)) M3 (p + 1)) (by rw [owP, if_pos e186]; simp only [amI, h8, h24, hTT, h43, h186, h198, h208]; try simp) (ihp (p + 1) _ (by omega) (by rw [cnt_t e186]; simp [bzf])))
                      · refine x_iload C dX3_night_201 203 rfl rfl ?_
                        refine x_goto C dX3_night_203 225 (by decide) ?_
                        refine x_iload_n C dX3_night_225 226 rfl rfl ?_
                        refine x_callV C lk_X3_441 dX3_night_226 229 rfl [_, _, _, _] [] rfl rfl hS.1 (Nat.le_of_ble_eq_true rfl) (by decide) (Nat.le_refl _) (Nat.le_refl _) (kX3_owes hS (by omega) (by omega)) ?_
                        rintro _ _ _ _ ⟨rfl, rfl, rfl, rfl⟩
                        refine x_ic (j := 0) C dX3_night_229 230 rfl ?_
                        refine x_istore C dX3_night_230 232 rfl [_, _, _, _, _, _, _, _, _, _] (by decide) rfl rfl ?_
                        refine x_iinc C dX3_night_232 235 rfl [_, _, _, _, _, _, _, _, _, _] (nI_inc _) (by decide) rfl rfl rfl ?_
                        refine x_goto C dX3_night_235 170 (by decide) ?_
                        first
                          | (refine x_eqI (I' := owP (cl I) s (prI I T r) f (decide (cnt s.testBit 10 = 2)) M3 (p + 1)) (by rw [owP, if_neg (by rw [e186]; decide)]) (ihp (p + 1) _ (by omega) (by rw [cnt_f e186])))
                          | (refine x_eqI (I' := owP (cl I) s (prI I T r) f (decide (cnt s.testBit 10 = 2)) M3 (p + 1)) (by rw [owP, if_pos e186]; simp only [amI, h8, h24, hTT, h43, h186, h198]; try simp) (ihp (p + 1) _ (by omega) (by rw [cnt_t e186]; simp [bzf])))
                    · have e186 : s.testBit p = false := (bit_0 s p).mp h186
                      refine x_goto C dX3_night_189 232 (by decide) ?_
                      refine x_iinc C dX3_night_232 235 rfl [_, _, _, _, _, _, _, _, _, _] (nI_inc _) (by decide) rfl rfl rfl ?_
                      refine x_goto C dX3_night_235 170 (by decide) ?_
                      first
                        | (refine x_eqI (I' := owP (cl I) s (prI I T r) f (decide (cnt s.testBit 10 = 2)) M3 (p + 1)) (by rw [owP, if_neg (by rw [e186]; decide)]) (ihp (p + 1) _ (by omega) (by rw [cnt_f e186])))
                        | (refine x_eqI (I' := owP (cl I) s (prI I T r) f (decide (cnt s.testBit 10 = 2)) M3 (p + 1)) (by rw [owP, if_pos e186]; simp only [amI, h8, h24, hTT, h43, h186]; try simp) (ihp (p + 1) _ (by omega) (by rw [cnt_t e186]; simp [bzf])))
                exact hFL (pn I) 0 _ (Nat.zero_add _) rfl
            exact hloop114 (rn I T) 0 (Nat.zero_add _)
          | succ j ih74 =>
            intro p  e74
            refine x_iload C dX3_night_74 76 rfl rfl ?_
            refine x_bip (j := 10) C dX3_night_76 78 rfl (by decide) ?_
            refine x_icmpgeN C dX3_night_78 81 111 rfl (by decide) (by omega) (by omega) (fun h78 => absurd h78 (by omega)) (fun _ => ?_)
            refine x_aloadr_n C dX3_night_81 82 rfl rfl ?_
            refine x_getr C fl_X3_81 (Or.inr ⟨_, rfl⟩) dX3_night_82 85 rfl hS.1 (twR_lay hS) ?_
            refine x_bip (j := 10) C dX3_night_85 87 rfl (by decide) ?_
            refine x_iload_n C dX3_night_87 88 rfl rfl ?_
            refine x_imul C dX3_night_88 89 rfl (pk_mul _ _) ?_
            refine x_iload C dX3_night_89 91 rfl rfl ?_
            refine x_iadd C dX3_night_91 92 rfl (nI_add _ _) ?_
            refine x_aloadr_n C dX3_night_92 93 rfl rfl ?_
            refine x_getr C fl_X3_66 (Or.inr ⟨_, rfl⟩) dX3_night_93 96 rfl hS.1 (twR_list hS) ?_
            refine x_bip (j := 10) C dX3_night_96 98 rfl (by decide) ?_
            refine x_iload_n C dX3_night_98 99 rfl rfl ?_
            refine x_imul C dX3_night_99 100 rfl (pk_mul _ _) ?_
            refine x_iload C dX3_night_100 102 rfl rfl ?_
            refine x_iadd C dX3_night_102 103 rfl (nI_add _ _) ?_
            refine x_iald C dX3_night_103 104 rfl (twA_list hS) (twN_list hS) rfl (by omega) (by decide) ((congrFun (lyS_n (b := 490) (by decide) _) _).trans (show sto M2 496 (cl I) bl 490 (10 * T + p) = I 490 (10 * T + p) from congrFun m490 _)) ?_
            refine x_iast C dX3_night_104 105 rfl (twA_lay hS) (twN_lay hS) rfl (by omega) (by decide) ?_
            refine x_iinc C dX3_night_105 108 rfl [_, _, _, _, _, _, _, _, _, _] (nI_inc _) (by decide) rfl rfl rfl ?_
            refine x_goto C dX3_night_108 74 (by decide) ?_
            refine x_eqI (by rfl) (ih74 (p + 1) (by omega))
        exact hloop74 10 0 (Nat.zero_add _)
      · refine x_icm C dX3_night_46 47 rfl ?_
        exact x_iret C dX3_night_47 (Nat.le_refl _) (Nat.le_refl _) (Qg_of (A := I) (by unfold sp_night; rw [if_neg (not_or.mpr ⟨h8, h24⟩), hTT, if_neg (by rw [h43]; decide)]; rfl) (gq_refl _) (jq_refl _))
    · refine x_icm C dX3_night_27 28 rfl ?_
      exact x_iret C dX3_night_28 (Nat.le_refl _) (Nat.le_refl _) (Qg_of (A := I) (by simp [sp_night, no1, h8, h24]) (gq_refl _) (jq_refl _))
end Tw17
