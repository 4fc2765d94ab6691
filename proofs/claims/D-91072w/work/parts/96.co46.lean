/-! the component: night -/
theorem half_up : ∀ x : Fin 1001, (nI x.1 + nI 1) / nI 2 = nI x.1 - nI x.1 / nI 2 := by decide +kernel
theorem ow_v0 {a b part am f : Int32} (h : b = 0) (hp : part = am) : a + (part - nI 0) = a + (if b = 0 then am else am - am * f / nI 100) := by
  subst hp
  rw [if_pos h, nI_0, Int32.sub_zero]
theorem ow_v1 {a b part am f : Int32} (h : ¬ b = 0) (hp : part = am) : a + (part - part * f / nI 100) = a + (if b = 0 then am else am - am * f / nI 100) := by
  subst hp
  rw [if_neg h]
theorem am1 {px c : Nat} {b : Bool} (h : c = 1) : nI px = amI (nI px) (decide (c = 2)) b := by
  subst h
  rfl
theorem am2 {px c s p : Nat} (hpx : px < 1001) (h1 : ¬ c = 1) (h0 : ¬ c = 0) (h2 : c ≤ 2) (hq : cnt s.testBit p = 0) : (nI px + nI 1) / nI 2 = amI (nI px) (decide (c = 2)) (decide (cnt s.testBit p = 0)) := by
  rw [show c = 2 by omega, hq]
  exact half_up ⟨px, hpx⟩
theorem am3 {px c s p : Nat} (h1 : ¬ c = 1) (h0 : ¬ c = 0) (h2 : c ≤ 2) (hq : ¬ cnt s.testBit p = 0) : nI px / nI 2 = amI (nI px) (decide (c = 2)) (decide (cnt s.testBit p = 0)) := by
  rw [show c = 2 by omega, decide_eq_false hq]
  rfl
theorem CoR_lo5 {K : Ly} {S : Sh} {I I' T T' : Mi} (h : CoR K S I T) (hi : ∀ a, ¬ (41 ≤ a ∧ a ≤ 71) → I' a = I a) (ht : ∀ b, b ≠ 495 → b ≠ 496 → T' b = T b) (hbk : coBk I' T') : CoR K S I' T' := by
  have hC := cr_S h
  refine CoR_fx h (fun a ha => hi a (by omega)) (fun a ha => hi a (fun e => ?_)) (fun b hb => ?_) (by rw [ht 473 (by decide) (by decide)]) (by rw [ht 473 (by decide) (by decide)]) ?_ (coNo_k (cr_no h) ⟨hi _ (by decide), hi _ (by decide), hi _ (by decide), hi _ (by decide)⟩ (by show nt _ = nt _; rw [ht 473 (by decide) (by decide)]) ⟨ht _ (by decide) (by decide), ht _ (by decide) (by decide), ht _ (by decide) (by decide)⟩) (coTp_k (cr_tp h) (hi _ (by decide)) (by show nt _ = nt _; rw [ht 473 (by decide) (by decide)]) (ht _ (by decide) (by decide))) hbk (coTr_k (cr_tr h) (fun a q1 q2 => hi a (by omega)) (fun b hb => ?_))
  · rcases Nat.lt_or_ge a 71 with q | q
    · have := (hC.2.2.2.1 (a - 41) (by omega)).2.1
      rw [show 41 + (a - 41) = a by omega] at this
      rw [this] at ha
      exact ni_100 ha
    · rw [show a = 71 by omega, coA_bills hC] at ha
      exact ni_100 ha
  · simp only [List.mem_cons, List.not_mem_nil, or_false] at hb
    exact ht b (by omega) (by omega)
  · have := h.2.1
    unfold coSc at this ⊢
    rw [hi 0 (by decide), ht 473 (by decide) (by decide)]
    exact this
  · simp only [List.mem_cons, List.not_mem_nil, or_false] at hb
    exact ht b (by omega) (by omega)
theorem CoR_bill {K : Ly} {S : Sh} {I T : Mi} (h : CoR K S I T) {c : Nat} (hc : c < 30) (v : Int32) : CoR K S (sto I 71 c v) (sto T 496 c v) := by
  refine CoR_lo5 h (fun a ha => sto_n _ _ _ (by omega)) (fun b _ hb => sto_n _ _ _ hb) ⟨fun n p hn hp => ?_, fun n hn => ?_⟩
  · rw [sto_n _ _ _ (by omega), sto_n _ _ _ (by omega), sto_n _ _ _ (by omega), sto_n _ _ _ (by omega)]
    exact (cr_bk h).1 n p hn hp
  · rw [sto_at, sto_at]
    by_cases e : n = c
    · rw [if_pos ⟨rfl, e⟩, if_pos ⟨rfl, e⟩]
    · rw [if_neg (fun q => e q.2), if_neg (fun q => e q.2)]
      exact (cr_bk h).2 n hn
theorem CoR_lay {K : Ly} {S : Sh} {I T : Mi} (h : CoR K S I T) {c p : Nat} (hc : c < 30) (hp : p < 10) (v : Int32) : CoR K S (sto I (41 + c) p v) (sto T 495 (10 * c + p) v) := by
  refine CoR_lo5 h (fun a ha => sto_n _ _ _ (by omega)) (fun b hb _ => sto_n _ _ _ hb) ⟨fun n q hn hq => ?_, fun n hn => ?_⟩
  · rw [sto_n _ _ _ (show 10 + n ≠ 41 + c by omega), sto_n _ _ _ (show (494 : Nat) ≠ 495 by decide), sto_at, sto_at]
    refine ⟨((cr_bk h).1 n q hn hq).1, ?_⟩
    by_cases e : n = c ∧ q = p
    · rw [if_pos ⟨by omega, e.2⟩, if_pos ⟨rfl, by omega⟩]
    · rw [if_neg (by omega), if_neg (by omega)]
      exact ((cr_bk h).1 n q hn hq).2
  · rw [sto_n _ _ _ (by omega), sto_n _ _ _ (by omega)]
    exact (cr_bk h).2 n hn
theorem CoR_owe {K : Ly} {S : Sh} {I T : Mi} (h : CoR K S I T) {p : Nat} (hp : p < pn T) {v v' : Int32} (hv : v = v') : CoR K S (sto I (pa K p) 8 v) (sto T 497 p v') := by
  subst hv
  refine CoR_pq (· = p) h ⟨rfl, rfl, rfl⟩ (fun a ha => ⟨rfl, ?_⟩) (fun b hb => ?_) (fun b q hP hb => ?_) (fun q j hP hj => rfl) (fun q hq e => ?_)
  · exact sto_n _ _ _ (ha p hp rfl)
  · simp only [List.mem_cons, List.not_mem_nil, or_false] at hb
    rw [sto_n _ _ _ (by omega)]
  · rw [sto_at, if_neg (fun e => hP e.2)]
  · have e : q = p := e
    subst e
    have e : ∀ i, sto I (pa K q) 8 v (pa K q) i = if i = 8 then v else I (pa K q) i := by
      intro i
      rw [sto_at]
      simp
    have e8 : sto T 497 q v 497 q = v := by rw [sto_at]; simp
    obtain ⟨g1, g2, g3, g4, g5, g6, g7, g8, g9, g10, g11, g12, g13⟩ := cr_pe h hq
    unfold perR
    rw [e8]
    simp only [e]
    exact ⟨g1, g2, g3, g4, g5, g6, g7, g8, g9, g10, rfl, g12, g13⟩
theorem CoR_closed {K : Ly} {S : Sh} {I T : Mi} (hR : CoR K S I T) (v : Int32) : CoR K S (sto I 0 5 v) (sto T 473 13 v) := by
  refine CoR_sc hR (fun a ha => sto_n _ _ _ ha) (fun b hb => sto_n _ _ _ hb) ?_ rfl rfl rfl rfl
  obtain ⟨g1, g2, g3, g4, g5, g6, g7, g8, g9, g10, g11, g12, g13, g14, g15, g16⟩ := hR.2.1
  exact ⟨g1, g2, g3, rfl, g5, g6, g7, g8, g9, g10, g11, g12, g13, g14, g15, g16⟩
/-- but for what is laid, billed, owed -/
def w5 (T T' : Mi) : Prop := ∀ b, b ≠ 495 → b ≠ 496 → b ≠ 497 → T' b = T b
section
variable {T T' : Mi}
theorem w5_473 (h : w5 T T') : T' 473 = T 473 := h 473 (by decide) (by decide) (by decide)
theorem w5_Tok (h : w5 T T') (hI : Tok T) : Tok T' := by
  unfold Tok at hI ⊢
  rw [w5_473 h, h 485 (by decide) (by decide) (by decide)]
  exact hI
theorem w5_Ls (h : w5 T T') (hL : LsOk T) : LsOk T' := by
  have e1 : tn T' = tn T := by show nt _ = nt _; rw [w5_473 h]
  have e2 : pn T' = pn T := by show nt _ = nt _; rw [w5_473 h]
  have e3 : ∀ t, rn T' t = rn T t := fun t => by show nt _ = nt _; rw [h 485 (by decide) (by decide) (by decide)]
  unfold LsOk at hL ⊢
  rw [e1, e2, h 490 (by decide) (by decide) (by decide)]
  intro t p
  rw [e3]
  exact hL t p
theorem w5_lyS (A I : Mi) (t c : Nat) : ∀ p, w5 A (lyS I t c A p) := fun p b h1 _ _ => lyS_n h1 p
theorem ow_cnt (hI : Tok T) {t r : Nat} (hbe : bedsOk T t) (hri : riB T t = true) (hr : r < rn T t) : cnt (si T (pn T) t (nI r)).testBit 10 ≤ 2 := by
  have hp := tk_p2 hI
  obtain ⟨m, hm, em⟩ := hbe r hr
  have h2 := of_decide_eq_true (Bool.and_eq_true_iff.mp hri).2
  have h3 := cnt_0 h2 r hr
  have h4 : mbB T (10 * t + r) (si T (pn T) t (nI r)) (pn T) = true := by
    cases e : mbB T (10 * t + r) (si T (pn T) t (nI r)) (pn T) with
    | true => rfl
    | false => rw [e] at h3; cases h3
  have hs : si T (pn T) t (nI r) < 2 ^ pn T := msk_lt _ _
  have hs10 := si_lt T t (nI r) hp
  rw [← fit_mb hp hs em hm] at h4
  unfold fitB at h4
  by_cases h0 : si T (pn T) t (nI r) = 0
  · rw [(cnt_0n hs10).mpr h0]
    omega
  · rw [if_neg h0] at h4
    by_cases hc : T 489 (10 * t + r) = 0 ∨ T 486 (10 * t + r) < nI (cnt (si T (pn T) t (nI r)).testBit 10)
    · rw [if_pos hc] at h4
      cases h4
    · have := cnt_le (si T (pn T) t (nI r)).testBit 10
      refine Classical.byContradiction fun q => hc (Or.inr ?_)
      rw [em]
      exact nI_lt (by omega) (by omega)
theorem lo_cnt {s p : Nat} (hs : s < 1024) (hb : s.testBit p = true) : lo s = p ↔ cnt s.testBit p = 0 := by
  have h0 : ¬ s = 0 := fun e => by rw [e, Nat.zero_testBit] at hb; cases hb
  obtain ⟨h1, h2, h3⟩ := lo_spec hs h0
  constructor
  · intro e
    exact cnt_z (fun i hi => h3 i (by omega))
  · intro e
    have q1 : ¬ lo s < p := fun q => by rw [cnt_0 e _ q] at h2; cases h2
    have q2 : ¬ p < lo s := fun q => by rw [h3 p q] at hb; cases hb
    omega
end
section Co46
variable {w : Wd} {l : Launch} {K : Ly} {S : Sh} {I T : Mi} {J : Ml}
theorem kX1_night (hR : CoR K S I T) (hI : Tok T) (hF : FrOk T) (hL : LsOk T) (hbe : ∀ t, t < tn T → bedsOk T t) (hpr : ∀ t, t < tn T → prOk T t) (hA : ¬ T 473 13 = T 473 12 → cl T < 30 ∧ tA T < tn T ∧ T 473 13 < T 484 (tA T) + T 483 (tA T)) : Ct w l yX1_night cX1_night 10 (some .int) 504 0 0 [.ref 0] S I J (Qp (sp_night T) S I J 0) := by
  refine Ct.of [some _, none, none, none, none, none, none, none, none, none] rfl (Nat.le_of_ble_eq_true rfl) (by decide) ?_
  intro κ hκ C
  subst hκ
  have hC := cr_S hR
  have hp10 := tk_p2 hI
  have ht6 := tk_t2 hI
  have hg30 := tk_g2 hI
  have hc30 := tk_c2 hI
  have hn500 := tk_n2 hI
  refine x_aloadr_n C dX1_night_0 1 rfl rfl ?_
  refine x_geti C fl_X1_115 (Or.inl rfl) dX1_night_1 4 rfl hC.1 (cs_closed hR) ?_
  refine x_aloadr_n C dX1_night_4 5 rfl rfl ?_
  refine x_geti C fl_X1_178 (Or.inl rfl) dX1_night_5 8 rfl hC.1 (cs_nightMany hR) ?_
  refine x_icmpeq C dX1_night_8 11 27 rfl (by decide) (fun h8 => ?_) (fun h8 => ?_)
  · refine x_icm C dX1_night_27 28 rfl ?_
    exact x_iret C dX1_night_28 (Nat.le_refl _) (Nat.le_refl _) (Qp_n hR (by simp [sp_night, no1, h8]))
  · refine x_aloadr_n C dX1_night_11 12 rfl rfl ?_
    refine x_geti C fl_X1_154 (Or.inl rfl) dX1_night_12 15 rfl hC.1 (cs_day hR) ?_
    refine x_aloadr_n C dX1_night_15 16 rfl rfl ?_
    refine x_geti C fl_X1_21 (Or.inl rfl) dX1_night_16 19 rfl hC.1 (cs_start hR) ?_
    refine x_aloadr_n C dX1_night_19 20 rfl rfl ?_
    refine x_geti C fl_X1_115 (Or.inl rfl) dX1_night_20 23 rfl hC.1 (cs_closed hR) ?_
    refine x_iadd C dX1_night_23 24 rfl rfl ?_
    refine x_icmpge C dX1_night_24 27 29 rfl (by decide) (fun h24 => ?_) (fun h24 => ?_)
    · obtain ⟨hcl, htA, hA2⟩ := hA h8
      generalize hTT : tA T = t at *
      have ht : t < tn T := htA
      have hr10 := tk_r2 hI (show t < 6 by omega)
      have et : nt (nI t) = t := nt_nI (by omega)
      have hpr := hpr t ht
      have hbe := hbe t ht
      refine x_aloadr_n C dX1_night_29 30 rfl rfl ?_
      refine x_aloadr_n C dX1_night_30 31 rfl rfl ?_
      refine x_geti C fl_X1_115 (Or.inl rfl) dX1_night_31 34 rfl hC.1 (cs_closed hR) ?_
      refine x_callV C lk_X1_404 dX1_night_34 37 rfl [_] [] rfl rfl hC.1 (Nat.le_of_ble_eq_true rfl) (by decide) (Nat.le_refl _) (Nat.le_refl _) (kX1_townOfNight hR hI ht hA2 (fun t' ht' => tA_lt (by rw [hTT]; exact ht'))) ?_
      rintro _ _ _ _ ⟨rfl, rfl, rfl, rfl⟩
      refine x_istore_n C dX1_night_37 38 rfl [_, _, _, _, _, _, _, _, _, _] (by decide) rfl rfl ?_
      refine x_aloadr_n C dX1_night_38 39 rfl rfl ?_
      refine x_iload_n C dX1_night_39 40 rfl rfl ?_
      refine x_callV C lk_X1_276 dX1_night_40 43 rfl [_] [] rfl rfl hC.1 (Nat.le_of_ble_eq_true rfl) (by decide) (Nat.le_refl _) (Nat.le_refl _) (kX1_isRight hR hI hF hL ht hbe) ?_
      rintro _ _ _ _ ⟨rfl, rfl, rfl, rfl⟩
      refine x_ifneZ C dX1_night_43 46 48 rfl (by decide) (fun h43 => ?_) (fun h43 => ?_)
      · have hto : toB T (nI t) = true := by
          show inB (nI t) (nI 0) (T 473 11 - nI 1) = true
          rw [tk_t hI, pk_sub (show 1 ≤ tn T by omega)]
          exact (in_iff (n := 0) (by omega) (by omega) (by omega)).mpr ⟨by omega, by omega⟩
        have hsp : sp_night T = (T 473 13, ngS T T t (cl T) (tol (rulesOf T t) (nI 2) (stI T t)) (biI T t (freeN T t))) := by
          unfold sp_night sp_right
          rw [if_neg (not_or.mpr ⟨h8, h24⟩), hTT, et, h43, hto]
          rfl
        rw [hsp]
        refine x_aloadr_n C dX1_night_48 49 rfl rfl ?_
        refine x_iload_n C dX1_night_49 50 rfl rfl ?_
        refine x_callV C lk_X1_349 dX1_night_50 53 rfl [_] [] rfl rfl hC.1 (Nat.le_of_ble_eq_true rfl) (by decide) (Nat.le_refl _) (Nat.le_refl _) (kX1_lays hR hI hL ht) ?_
        rintro _ _ M _ ⟨rfl, rfl, rfl, hM, m0, m1, m2, m3, m4⟩
        have hR2 := CoR_8 hR hM
        refine x_astorer_n C dX1_night_53 54 rfl [_, _, _, _, _, _, _, _, _, _] (by decide) rfl rfl ?_
        refine x_aloadr_n C dX1_night_54 55 rfl rfl ?_
        refine x_aloadr_n C dX1_night_55 56 rfl rfl ?_
        refine x_ic (j := 2) C dX1_night_56 57 rfl ?_
        refine x_callV C lk_X1_353 dX1_night_57 60 rfl [_, _] [] rfl rfl hC.1 (Nat.le_of_ble_eq_true rfl) (by decide) (Nat.le_refl _) (Nat.le_refl _) (kX1_worthOf hR2 hI ht) ?_
        rintro _ _ _ _ ⟨rfl, rfl, rfl, rfl⟩
        rw [sg8_st m0 m1 m2 m3 m4]
        refine x_istore_n C dX1_night_60 61 rfl [_, _, _, _, _, _, _, _, _, _] (by decide) rfl rfl ?_
        refine x_aloadr_n C dX1_night_61 62 rfl rfl ?_
        refine x_getr C fl_X1_62 (Or.inr ⟨_, rfl⟩) dX1_night_62 65 rfl hC.1 (coR_bills hC) ?_
        refine x_aloadr_n C dX1_night_65 66 rfl rfl ?_
        refine x_geti C fl_X1_115 (Or.inl rfl) dX1_night_66 69 rfl hC.1 ((cs_closed hR2).trans (tk_c hI)) ?_
        refine x_aloadr_n C dX1_night_69 70 rfl rfl ?_
        refine x_aloadr_n C dX1_night_70 71 rfl rfl ?_
        refine x_aloadr_n C dX1_night_71 72 rfl rfl ?_
        refine x_aloadr_n C dX1_night_72 73 rfl rfl ?_
        refine x_ic (j := 3) C dX1_night_73 74 rfl ?_
        refine x_callV C lk_X1_353 dX1_night_74 77 rfl [_, _] [_, _, _, _] rfl rfl hC.1 (Nat.le_of_ble_eq_true rfl) (by decide) (Nat.le_refl _) (Nat.le_refl _) (kX1_worthOf hR2 hI ht) ?_
        rintro _ _ _ _ ⟨rfl, rfl, rfl, rfl⟩
        rw [sg8_st m0 m1 m2 m3 m4, (tol_ok (rulesOf T t) (nI 3) (stI T t)).1]
        refine x_callV C lk_X1_407 dX1_night_77 80 rfl [_, _] [_, _] rfl rfl hC.1 (Nat.le_of_ble_eq_true rfl) (by decide) (Nat.le_refl _) (Nat.le_refl _) (kX1_billOf hR2 hI hL ht hpr (tol_ok (rulesOf T t) (nI 3) (stI T t)).2) ?_
        rintro _ _ _ _ ⟨rfl, rfl, rfl, rfl⟩
        refine x_iast C dX1_night_80 81 rfl (coA_bills hC) (coN_bills hC) rfl (by omega) (by decide) ?_
        rw [show nt (tol (rulesOf T t) (nI 3) (stI T t)) = freeN T t from rfl]
        have hf2 : fzI I M := fun a q1 q2 => hM a (by omega)
        have hB := CoR_bill hR2 hcl (biI T t (freeN T t))
        have hfB : fzI I (sto M 71 (cl T) (biI T t (freeN T t))) := fz_sto hf2 (by decide)
        have hwB : w5 T (sto T 496 (cl T) (biI T t (freeN T t))) := fun b _ q _ => sto_n _ _ _ q
        have hgl := hC.2.2.2.1 (cl T) hcl
        have hga := hC.2.2.1 (cl T) hcl
        generalize hf : tol (rulesOf T t) (nI 2) (stI T t) = f at *
        generalize hb : biI T t (freeN T t) = bl at *
        obtain ⟨T1, hT1⟩ : ∃ T1, T1 = sto T 496 (cl T) bl := ⟨_, rfl⟩
        obtain ⟨M1, hM1⟩ : ∃ M1, M1 = sto M 71 (cl T) bl := ⟨_, rfl⟩
        have hq : ngS T T t (cl T) f bl = sto (owR T t (cl T) f (lyS T t (cl T) T1 10) (rn T t)) 473 13 (T 473 13 + nI 1) := by rw [hT1]; rfl
        rw [hq]
        have hrooms : ∀ (j r : Nat) (M : Mi), r + j = rn T t → CoR K S M (owR T t (cl T) f (lyS T t (cl T) T1 10) r) → w5 T (owR T t (cl T) f (lyS T t (cl T) T1 10) r) → fzI I M → XX w κ (Zr w κ (Qp (T 473 13, sto (owR T t (cl T) f (lyS T t (cl T) T1 10) (rn T t)) 473 13 (T 473 13 + nI 1)) S I J 0)) 0 0 119 [some (.ref 0), some (.int (nI t)), some (.ref (ta K t)), some (.int f), some (.int (nI r)), none, none, none, none, none] [] S M J := by
          intro j
          induction j with
          | zero =>
            intro r M er hM hw hf
            have er : r = rn T t := er
            obtain ⟨A, hA'⟩ : ∃ A, A = owR T t (cl T) f (lyS T t (cl T) T1 10) r := ⟨_, rfl⟩
            have hA2 : owR T t (cl T) f (lyS T t (cl T) T1 10) (rn T t) = A := by rw [hA', er]
            rw [← hA'] at hM hw
            rw [hA2]
            have htA' : t < tn A := by rw [show tn A = tn T from by show nt _ = nt _; rw [w5_473 hw]]; exact ht
            refine x_iload C dX1_night_119 121 rfl rfl ?_
            refine x_aloadr_n C dX1_night_121 122 rfl rfl ?_
            refine x_geti C fl_X1_128 (Or.inl rfl) dX1_night_122 125 rfl (ct_T hR ht) ((ct_roomMany hM htA').trans ((congrFun (hw 485 (by decide) (by decide) (by decide)) t).trans (tk_r hI (show t < 6 by omega)))) ?_
            refine x_icmpgeN C dX1_night_125 128 296 rfl (by decide) (by omega) (by omega) (fun _ => ?_) (fun h125 => absurd h125 (by omega))
            refine x_aloadr_n C dX1_night_296 297 rfl rfl ?_
            refine x_dup C dX1_night_297 298 rfl rfl ?_
            refine x_geti C fl_X1_115 (Or.inl rfl) dX1_night_298 301 rfl hC.1 ((cs_closed hM).trans (congrFun (w5_473 hw) 13)) ?_
            refine x_ic (j := 1) C dX1_night_301 302 rfl ?_
            refine x_iadd C dX1_night_302 303 rfl rfl ?_
            refine x_puti C fl_X1_115 (Or.inl rfl) (Or.inl rfl) dX1_night_303 306 rfl hC.1 ?_
            refine x_aloadr_n C dX1_night_306 307 rfl rfl ?_
            refine x_geti C fl_X1_115 (Or.inl rfl) dX1_night_307 310 rfl hC.1 (sto_ss _ _ _ _) ?_
            refine x_ic (j := 1) C dX1_night_310 311 rfl ?_
            refine x_isub C dX1_night_311 312 rfl rfl ?_
            exact x_iret C dX1_night_312 (Nat.le_refl _) (Nat.le_refl _) (Qp_s (by rw [Int32.add_sub_cancel]) (CoR_closed hM _) (fz_sto hf (by decide)))
          | succ j ihr =>
            intro r M er hM hw hf
            have hrr : r < rn T t := by omega
            have hnx := ihr (r + 1)
            have hsil := si_lt T t (nI r) (tk_p2 hI)
            have hsl : si T (pn T) t (nI r) < 2 ^ pn T := msk_lt _ _
            have hc2 := ow_cnt hI hbe (by first | exact h43 | exact eq_true_of_ne_false h43) hrr
            obtain ⟨px, hpx, epx⟩ : ∃ px, px ≤ 1000 ∧ prI T t r = nI px := ⟨pxN T t r, (px_ok hpr hrr).2, (px_ok hpr hrr).1⟩
            rw [owR, epx] at hnx
            generalize hss : si T (pn T) t (nI r) = s at *
            obtain ⟨A, hA'⟩ : ∃ A, A = owR T t (cl T) f (lyS T t (cl T) T1 10) r := ⟨_, rfl⟩
            rw [← hA'] at hM hw hnx
            have hpeople : ∀ (j p : Nat) (M : Mi), p + j = pn T → CoR K S M (owP (cl T) s (nI px) f (decide (cnt s.testBit 10 = 2)) A p) → fzI I M → XX w κ (Zr w κ (Qp (T 473 13, sto (owR T t (cl T) f (lyS T t (cl T) T1 10) (rn T t)) 473 13 (T 473 13 + nI 1)) S I J 0)) 0 0 146 [some (.ref 0), some (.int (nI t)), some (.ref (ta K t)), some (.int f), some (.int (nI r)), some (.int (nI s)), some (.int (nI (cnt s.testBit 10))), some (.int (nI p)), none, none] [] S M J := by
              intro j
              induction j with
              | zero =>
                intro p M ep hM hf
                have ep : p = pn T := ep
                have e1 : owP (cl T) s (nI px) f (decide (cnt s.testBit 10 = 2)) A p 473 = T 473 := (owP_n (by decide) p).trans (w5_473 hw)
                refine x_iload C dX1_night_146 148 rfl rfl ?_
                refine x_aloadr_n C dX1_night_148 149 rfl rfl ?_
                refine x_geti C fl_X1_105 (Or.inl rfl) dX1_night_149 152 rfl hC.1 ((cs_peopleMany hM).trans ((congrFun e1 1).trans (tk_p hI))) ?_
                refine x_icmpgeN C dX1_night_152 155 290 rfl (by decide) (by omega) (by omega) (fun _ => ?_) (fun h152 => absurd h152 (by omega))
                refine x_iinc C dX1_night_290 293 rfl [_, _, _, _, _, _, _, _, _, _] (nI_inc _) (by decide) rfl rfl rfl ?_
                refine x_goto C dX1_night_293 119 (by decide) ?_
                refine x_ls [some _, some _, some _, some _, some _, none, none, none, none, none] ⟨rfl, rfl, rfl, rfl, rfl, trivial⟩ ?_
                rw [ep] at hM
                exact hnx _ (by omega) hM (fun b q1 q2 q3 => (owP_n q3 _).trans (hw b q1 q2 q3)) hf
              | succ j ihp =>
                intro p M ep hM hf
                have hpp : p < pn T := by omega
                have e1 : owP (cl T) s (nI px) f (decide (cnt s.testBit 10 = 2)) A p 473 = T 473 := (owP_n (by decide) p).trans (w5_473 hw)
                have e488 : owP (cl T) s (nI px) f (decide (cnt s.testBit 10 = 2)) A p 488 = T 488 := (owP_n (by decide) p).trans (hw 488 (by decide) (by decide) (by decide))
                have e485 : owP (cl T) s (nI px) f (decide (cnt s.testBit 10 = 2)) A p 485 = T 485 := (owP_n (by decide) p).trans (hw 485 (by decide) (by decide) (by decide))
                have hst := ihp (p + 1)
                rw [owP] at hst
                obtain ⟨B, hB'⟩ : ∃ B, B = owP (cl T) s (nI px) f (decide (cnt s.testBit 10 = 2)) A p := ⟨_, rfl⟩
                rw [← hB'] at hM e1 e488 e485 hst
                have hpB : p < pn B := by rw [show pn B = pn T from by show nt _ = nt _; rw [e1]]; exact hpp
                have htB : t < tn B := by rw [show tn B = tn T from by show nt _ = nt _; rw [e1]]; exact ht
                have hrB : r < rn B t := by rw [show rn B t = rn T t from by show nt _ = nt _; rw [e485]]; exact hrr
                have h520 := ((cr_ly hM).2.2.2.1 p hpB).1
                have hcB := cs_closed hM
                have hR := hM
                refine x_iload C dX1_night_146 148 rfl rfl ?_
                refine x_aloadr_n C dX1_night_148 149 rfl rfl ?_
                refine x_geti C fl_X1_105 (Or.inl rfl) dX1_night_149 152 rfl hC.1 ((cs_peopleMany hM).trans ((congrFun e1 1).trans (tk_p hI))) ?_
                refine x_icmpgeN C dX1_night_152 155 290 rfl (by decide) (by omega) (by omega) (fun h152 => absurd h152 (by omega)) (fun _ => ?_)
                refine x_iload C dX1_night_155 157 rfl rfl ?_
                refine x_iload C dX1_night_157 159 rfl rfl ?_
                refine x_ishr C dX1_night_159 160 rfl (nI_shrp _ _ (by omega) (by omega)) ?_
                refine x_ic (j := 1) C dX1_night_160 161 rfl ?_
                refine x_iand C dX1_night_161 162 rfl (nI_bit _ _) ?_
                refine x_ifneN C dX1_night_162 165 168 rfl (by decide) (by have := bit_lt s p; omega) (fun h162 => ?_) (fun h162 => ?_)
                · have e162 : s.testBit p = true := by { cases e : s.testBit p with | true => rfl | false => exact absurd ((bit_0 s p).mpr e) h162 }
                  have hs0 : ¬ s = 0 := fun e => by rw [e, Nat.zero_testBit] at e162; cases e162
                  have hlo := lo_cnt hsil e162
                  have hlo2 := (lo_spec hsil hs0).1
                  have hcp : ¬ cnt s.testBit 10 = 0 := fun e => hs0 ((cnt_0n hsil).mp e)
                  have hcl10 := cnt_le s.testBit 10
                  rw [if_pos e162] at hst
                  unfold owS at hst
                  refine x_iload C dX1_night_168 170 rfl rfl ?_
                  refine x_callS C lk_X1_208 dX1_night_170 173 rfl [_] [] rfl rfl (Nat.le_of_ble_eq_true rfl) (by decide) (Nat.le_refl _) (Nat.le_refl _) (kJ3_numberOfTrailingZeros hsil hs0) ?_
                  rintro _ _ _ _ ⟨rfl, rfl, rfl, rfl⟩
                  refine x_iload C dX1_night_173 175 rfl rfl ?_
                  apply x_jNZ0 (pj := 183) (fun kt kf => x_icmpneN C dX1_night_175 178 182 rfl (by decide) (by omega) (by omega) kt kf)
                  case ht =>
                    intro K
                    refine x_ic (j := 0) C dX1_night_182 183 rfl ?_
                    exact K
                  case hf =>
                    intro K
                    refine x_ic (j := 1) C dX1_night_178 179 rfl ?_
                    refine x_goto C dX1_night_179 183 (by decide) ?_
                    exact K
                  refine x_istore C dX1_night_183 185 rfl [_, _, _, _, _, _, _, _, _, _] (by decide) rfl rfl ?_
                  refine x_iload C dX1_night_185 187 rfl rfl ?_
                  refine x_ic (j := 1) C dX1_night_187 188 rfl ?_
                  refine x_icmpneN C dX1_night_188 191 204 rfl (by decide) (by omega) (by omega) (fun h188 => ?_) (fun h188 => ?_)
                  · refine x_iload C dX1_night_204 206 rfl rfl ?_
                    refine x_ifeqZ C dX1_night_206 209 226 rfl (by decide) (fun h206 => ?_) (fun h206 => ?_)
                    · have hpart := am3 (px := px) h188 hcp hc2 (fun q => of_decide_eq_false h206 (hlo.mpr q))
                      refine x_aloadr_n C dX1_night_226 227 rfl rfl ?_
                      refine x_getr C fl_X1_187 (Or.inr ⟨_, rfl⟩) dX1_night_227 230 rfl (ct_T hR htB) (ct_rooms hR htB) ?_
                      refine x_iload C dX1_night_230 232 rfl rfl ?_
                      refine x_aaldr (t := 6) C dX1_night_232 233 rfl (ct_roomsA hR htB) (by decide) (ct_roomsN hR htB) rfl (by omega) (by decide) (cm_elt hR htB hrB) ?_
                      refine x_geti C fl_X1_235 (Or.inl rfl) dX1_night_233 236 rfl (cm_T hR htB hrB) ((cm_price hM htB hrB).trans ((congrFun e488 _).trans epx)) ?_
                      refine x_ic (j := 2) C dX1_night_236 237 rfl ?_
                      refine x_idiv C dX1_night_237 238 rfl (by decide) rfl ?_
                      refine x_istore C dX1_night_238 240 rfl [_, _, _, _, _, _, _, _, _, _] (by decide) rfl rfl ?_
                      refine x_aloadr_n C dX1_night_240 241 rfl rfl ?_
                      refine x_getr C fl_X1_11 (Or.inr ⟨_, rfl⟩) dX1_night_241 244 rfl hC.1 (coR_people hC) ?_
                      refine x_iload C dX1_night_244 246 rfl rfl ?_
                      refine x_aaldr (t := 4) C dX1_night_246 247 rfl (coA_people hC) (by decide) (coN_people hC) rfl (by omega) (by decide) (cp_elt hR hpB) ?_
                      refine x_dup C dX1_night_247 248 rfl rfl ?_
                      refine x_geti C fl_X1_410 (Or.inl rfl) dX1_night_248 251 rfl (cp_T hR hpB) (cp_owes hM hpB) ?_
                      refine x_iload C dX1_night_251 253 rfl rfl ?_
                      refine x_aloadr_n C dX1_night_253 254 rfl rfl ?_
                      refine x_getr C fl_X1_54 (Or.inr ⟨_, rfl⟩) dX1_night_254 257 rfl hC.1 (coR_absent hC) ?_
                      refine x_aloadr_n C dX1_night_257 258 rfl rfl ?_
                      refine x_geti C fl_X1_115 (Or.inl rfl) dX1_night_258 261 rfl hC.1 (hcB.trans ((congrFun e1 13).trans (tk_c hI))) ?_
                      refine x_aaldr (t := 9) C dX1_night_261 262 rfl (coA_absent hC) (by decide) (coN_absent hC) rfl (by omega) (by decide) hga.1 ?_
                      refine x_iload C dX1_night_262 264 rfl rfl ?_
                      refine x_zald C dX1_night_264 265 rfl hga.2.1 hga.2.2 rfl (by omega) (by decide) ((cr_bk hM).1 (cl T) p hcl (by omega)).1 ?_
                      refine x_ifeq C dX1_night_265 268 278 rfl (by decide) (fun h265 => ?_) (fun h265 => ?_)
                      · refine x_ic (j := 0) C dX1_night_278 279 rfl ?_
                        refine x_isub C dX1_night_279 280 rfl rfl ?_
                        refine x_iadd C dX1_night_280 281 rfl rfl ?_
                        refine x_puti C fl_X1_410 (Or.inl rfl) (Or.inl rfl) dX1_night_281 284 rfl (cp_T hR hpB) ?_
                        refine x_iinc C dX1_night_284 287 rfl [_, _, _, _, _, _, _, _, _, _] (nI_inc _) (by decide) rfl rfl rfl ?_
                        refine x_goto C dX1_night_287 146 (by decide) ?_
                        refine x_ls [some _, some _, some _, some _, some _, some _, some _, some _, none, none] ⟨rfl, rfl, rfl, rfl, rfl, rfl, rfl, rfl, trivial⟩ ?_
                        refine hst _ (by omega) (CoR_owe hM hpB ?_) (fz_sto hf (Or.inr (by omega)))
                        first
                          | (rw [if_pos h265, ← hpart, nI_0, Int32.sub_zero])
                          | (rw [if_neg h265, ← hpart])
                      · refine x_iload C dX1_night_268 270 rfl rfl ?_
                        refine x_iload_n C dX1_night_270 271 rfl rfl ?_
                        refine x_imul C dX1_night_271 272 rfl rfl ?_
                        refine x_bip (j := 100) C dX1_night_272 274 rfl (by decide) ?_
                        refine x_idiv C dX1_night_274 275 rfl (by decide) rfl ?_
                        refine x_goto C dX1_night_275 279 (by decide) ?_
                        refine x_isub C dX1_night_279 280 rfl rfl ?_
                        refine x_iadd C dX1_night_280 281 rfl rfl ?_
                        refine x_puti C fl_X1_410 (Or.inl rfl) (Or.inl rfl) dX1_night_281 284 rfl (cp_T hR hpB) ?_
                        refine x_iinc C dX1_night_284 287 rfl [_, _, _, _, _, _, _, _, _, _] (nI_inc _) (by decide) rfl rfl rfl ?_
                        refine x_goto C dX1_night_287 146 (by decide) ?_
                        refine x_ls [some _, some _, some _, some _, some _, some _, some _, some _, none, none] ⟨rfl, rfl, rfl, rfl, rfl, rfl, rfl, rfl, trivial⟩ ?_
                        refine hst _ (by omega) (CoR_owe hM hpB ?_) (fz_sto hf (Or.inr (by omega)))
                        first
                          | (rw [if_pos h265, ← hpart, nI_0, Int32.sub_zero])
                          | (rw [if_neg h265, ← hpart])
                    · have hpart := am2 (px := px) (by omega) h188 hcp hc2 (hlo.mp (of_decide_eq_true h206))
                      refine x_aloadr_n C dX1_night_209 210 rfl rfl ?_
                      refine x_getr C fl_X1_187 (Or.inr ⟨_, rfl⟩) dX1_night_210 213 rfl (ct_T hR htB) (ct_rooms hR htB) ?_
                      refine x_iload C dX1_night_213 215 rfl rfl ?_
                      refine x_aaldr (t := 6) C dX1_night_215 216 rfl (ct_roomsA hR htB) (by decide) (ct_roomsN hR htB) rfl (by omega) (by decide) (cm_elt hR htB hrB) ?_
                      refine x_geti C fl_X1_235 (Or.inl rfl) dX1_night_216 219 rfl (cm_T hR htB hrB) ((cm_price hM htB hrB).trans ((congrFun e488 _).trans epx)) ?_
                      refine x_ic (j := 1) C dX1_night_219 220 rfl ?_
                      refine x_iadd C dX1_night_220 221 rfl rfl ?_
                      refine x_ic (j := 2) C dX1_night_221 222 rfl ?_
                      refine x_idiv C dX1_night_222 223 rfl (by decide) rfl ?_
                      refine x_goto C dX1_night_223 238 (by decide) ?_
                      refine x_istore C dX1_night_238 240 rfl [_, _, _, _, _, _, _, _, _, _] (by decide) rfl rfl ?_
                      refine x_aloadr_n C dX1_night_240 241 rfl rfl ?_
                      refine x_getr C fl_X1_11 (Or.inr ⟨_, rfl⟩) dX1_night_241 244 rfl hC.1 (coR_people hC) ?_
                      refine x_iload C dX1_night_244 246 rfl rfl ?_
                      refine x_aaldr (t := 4) C dX1_night_246 247 rfl (coA_people hC) (by decide) (coN_people hC) rfl (by omega) (by decide) (cp_elt hR hpB) ?_
                      refine x_dup C dX1_night_247 248 rfl rfl ?_
                      refine x_geti C fl_X1_410 (Or.inl rfl) dX1_night_248 251 rfl (cp_T hR hpB) (cp_owes hM hpB) ?_
                      refine x_iload C dX1_night_251 253 rfl rfl ?_
                      refine x_aloadr_n C dX1_night_253 254 rfl rfl ?_
                      refine x_getr C fl_X1_54 (Or.inr ⟨_, rfl⟩) dX1_night_254 257 rfl hC.1 (coR_absent hC) ?_
                      refine x_aloadr_n C dX1_night_257 258 rfl rfl ?_
                      refine x_geti C fl_X1_115 (Or.inl rfl) dX1_night_258 261 rfl hC.1 (hcB.trans ((congrFun e1 13).trans (tk_c hI))) ?_
                      refine x_aaldr (t := 9) C dX1_night_261 262 rfl (coA_absent hC) (by decide) (coN_absent hC) rfl (by omega) (by decide) hga.1 ?_
                      refine x_iload C dX1_night_262 264 rfl rfl ?_
                      refine x_zald C dX1_night_264 265 rfl hga.2.1 hga.2.2 rfl (by omega) (by decide) ((cr_bk hM).1 (cl T) p hcl (by omega)).1 ?_
                      refine x_ifeq C dX1_night_265 268 278 rfl (by decide) (fun h265 => ?_) (fun h265 => ?_)
                      · refine x_ic (j := 0) C dX1_night_278 279 rfl ?_
                        refine x_isub C dX1_night_279 280 rfl rfl ?_
                        refine x_iadd C dX1_night_280 281 rfl rfl ?_
                        refine x_puti C fl_X1_410 (Or.inl rfl) (Or.inl rfl) dX1_night_281 284 rfl (cp_T hR hpB) ?_
                        refine x_iinc C dX1_night_284 287 rfl [_, _, _, _, _, _, _, _, _, _] (nI_inc _) (by decide) rfl rfl rfl ?_
                        refine x_goto C dX1_night_287 146 (by decide) ?_
                        refine x_ls [some _, some _, some _, some _, some _, some _, some _, some _, none, none] ⟨rfl, rfl, rfl, rfl, rfl, rfl, rfl, rfl, trivial⟩ ?_
                        refine hst _ (by omega) (CoR_owe hM hpB ?_) (fz_sto hf (Or.inr (by omega)))
                        first
                          | (rw [if_pos h265, ← hpart, nI_0, Int32.sub_zero])
                          | (rw [if_neg h265, ← hpart])
                      · refine x_iload C dX1_night_268 270 rfl rfl ?_
                        refine x_iload_n C dX1_night_270 271 rfl rfl ?_
                        refine x_imul C dX1_night_271 272 rfl rfl ?_
                        refine x_bip (j := 100) C dX1_night_272 274 rfl (by decide) ?_
                        refine x_idiv C dX1_night_274 275 rfl (by decide) rfl ?_
                        refine x_goto C dX1_night_275 279 (by decide) ?_
                        refine x_isub C dX1_night_279 280 rfl rfl ?_
                        refine x_iadd C dX1_night_280 281 rfl rfl ?_
                        refine x_puti C fl_X1_410 (Or.inl rfl) (Or.inl rfl) dX1_night_281 284 rfl (cp_T hR hpB) ?_
                        refine x_iinc C dX1_night_284 287 rfl [_, _, _, _, _, _, _, _, _, _] (nI_inc _) (by decide) rfl rfl rfl ?_
                        refine x_goto C dX1_night_287 146 (by decide) ?_
                        refine x_ls [some _, some _, some _, some _, some _, some _, some _, some _, none, none] ⟨rfl, rfl, rfl, rfl, rfl, rfl, rfl, rfl, trivial⟩ ?_
                        refine hst _ (by omega) (CoR_owe hM hpB ?_) (fz_sto hf (Or.inr (by omega)))
                        first
                          | (rw [if_pos h265, ← hpart, nI_0, Int32.sub_zero])
                          | (rw [if_neg h265, ← hpart])
                  · have hpart := am1 (px := px) (b := decide (cnt s.testBit p = 0)) h188
                    refine x_aloadr_n C dX1_night_191 192 rfl rfl ?_
                    refine x_getr C fl_X1_187 (Or.inr ⟨_, rfl⟩) dX1_night_192 195 rfl (ct_T hR htB) (ct_rooms hR htB) ?_
                    refine x_iload C dX1_night_195 197 rfl rfl ?_
                    refine x_aaldr (t := 6) C dX1_night_197 198 rfl (ct_roomsA hR htB) (by decide) (ct_roomsN hR htB) rfl (by omega) (by decide) (cm_elt hR htB hrB) ?_
                    refine x_geti C fl_X1_235 (Or.inl rfl) dX1_night_198 201 rfl (cm_T hR htB hrB) ((cm_price hM htB hrB).trans ((congrFun e488 _).trans epx)) ?_
                    refine x_goto C dX1_night_201 238 (by decide) ?_
                    refine x_istore C dX1_night_238 240 rfl [_, _, _, _, _, _, _, _, _, _] (by decide) rfl rfl ?_
                    refine x_aloadr_n C dX1_night_240 241 rfl rfl ?_
                    refine x_getr C fl_X1_11 (Or.inr ⟨_, rfl⟩) dX1_night_241 244 rfl hC.1 (coR_people hC) ?_
                    refine x_iload C dX1_night_244 246 rfl rfl ?_
                    refine x_aaldr (t := 4) C dX1_night_246 247 rfl (coA_people hC) (by decide) (coN_people hC) rfl (by omega) (by decide) (cp_elt hR hpB) ?_
                    refine x_dup C dX1_night_247 248 rfl rfl ?_
                    refine x_geti C fl_X1_410 (Or.inl rfl) dX1_night_248 251 rfl (cp_T hR hpB) (cp_owes hM hpB) ?_
                    refine x_iload C dX1_night_251 253 rfl rfl ?_
                    refine x_aloadr_n C dX1_night_253 254 rfl rfl ?_
                    refine x_getr C fl_X1_54 (Or.inr ⟨_, rfl⟩) dX1_night_254 257 rfl hC.1 (coR_absent hC) ?_
                    refine x_aloadr_n C dX1_night_257 258 rfl rfl ?_
                    refine x_geti C fl_X1_115 (Or.inl rfl) dX1_night_258 261 rfl hC.1 (hcB.trans ((congrFun e1 13).trans (tk_c hI))) ?_
                    refine x_aaldr (t := 9) C dX1_night_261 262 rfl (coA_absent hC) (by decide) (coN_absent hC) rfl (by omega) (by decide) hga.1 ?_
                    refine x_iload C dX1_night_262 264 rfl rfl ?_
                    refine x_zald C dX1_night_264 265 rfl hga.2.1 hga.2.2 rfl (by omega) (by decide) ((cr_bk hM).1 (cl T) p hcl (by omega)).1 ?_
                    refine x_ifeq C dX1_night_265 268 278 rfl (by decide) (fun h265 => ?_) (fun h265 => ?_)
                    · refine x_ic (j := 0) C dX1_night_278 279 rfl ?_
                      refine x_isub C dX1_night_279 280 rfl rfl ?_
                      refine x_iadd C dX1_night_280 281 rfl rfl ?_
                      refine x_puti C fl_X1_410 (Or.inl rfl) (Or.inl rfl) dX1_night_281 284 rfl (cp_T hR hpB) ?_
                      refine x_iinc C dX1_night_284 287 rfl [_, _, _, _, _, _, _, _, _, _] (nI_inc _) (by decide) rfl rfl rfl ?_
                      refine x_goto C dX1_night_287 146 (by decide) ?_
                      refine x_ls [some _, some _, some _, some _, some _, some _, some _, some _, none, none] ⟨rfl, rfl, rfl, rfl, rfl, rfl, rfl, rfl, trivial⟩ ?_
                      refine hst _ (by omega) (CoR_owe hM hpB ?_) (fz_sto hf (Or.inr (by omega)))
                      first
                        | (rw [if_pos h265, ← hpart, nI_0, Int32.sub_zero])
                        | (rw [if_neg h265, ← hpart])
                    · refine x_iload C dX1_night_268 270 rfl rfl ?_
                      refine x_iload_n C dX1_night_270 271 rfl rfl ?_
                      refine x_imul C dX1_night_271 272 rfl rfl ?_
                      refine x_bip (j := 100) C dX1_night_272 274 rfl (by decide) ?_
                      refine x_idiv C dX1_night_274 275 rfl (by decide) rfl ?_
                      refine x_goto C dX1_night_275 279 (by decide) ?_
                      refine x_isub C dX1_night_279 280 rfl rfl ?_
                      refine x_iadd C dX1_night_280 281 rfl rfl ?_
                      refine x_puti C fl_X1_410 (Or.inl rfl) (Or.inl rfl) dX1_night_281 284 rfl (cp_T hR hpB) ?_
                      refine x_iinc C dX1_night_284 287 rfl [_, _, _, _, _, _, _, _, _, _] (nI_inc _) (by decide) rfl rfl rfl ?_
                      refine x_goto C dX1_night_287 146 (by decide) ?_
                      refine x_ls [some _, some _, some _, some _, some _, some _, some _, some _, none, none] ⟨rfl, rfl, rfl, rfl, rfl, rfl, rfl, rfl, trivial⟩ ?_
                      refine hst _ (by omega) (CoR_owe hM hpB ?_) (fz_sto hf (Or.inr (by omega)))
                      first
                        | (rw [if_pos h265, ← hpart, nI_0, Int32.sub_zero])
                        | (rw [if_neg h265, ← hpart])
                · have e162 : s.testBit p = false := (bit_0 s p).mp h162
                  refine x_goto C dX1_night_165 284 (by decide) ?_
                  rw [if_neg (by rw [e162]; decide)] at hst
                  refine x_iinc C dX1_night_284 287 rfl [_, _, _, _, _, _, _, _, _, _] (nI_inc _) (by decide) rfl rfl rfl ?_
                  refine x_goto C dX1_night_287 146 (by decide) ?_
                  exact hst _ (by omega) hM hf
            have hpA : tn A = tn T := by show nt _ = nt _; rw [w5_473 hw]
            have htA' : t < tn A := by rw [hpA]; exact ht
            have hsA : si A (pn A) t (nI r) = s := by
              rw [si_q (hw 490 (by decide) (by decide) (by decide)), show pn A = pn T from by show nt _ = nt _; rw [w5_473 hw]]
              exact hss
            have hR := hM
            refine x_iload C dX1_night_119 121 rfl rfl ?_
            refine x_aloadr_n C dX1_night_121 122 rfl rfl ?_
            refine x_geti C fl_X1_128 (Or.inl rfl) dX1_night_122 125 rfl (ct_T hR htA') ((ct_roomMany hM htA').trans ((congrFun (hw 485 (by decide) (by decide) (by decide)) t).trans (tk_r hI (show t < 6 by omega)))) ?_
            refine x_icmpgeN C dX1_night_125 128 296 rfl (by decide) (by omega) (by omega) (fun h125 => absurd h125 (by omega)) (fun _ => ?_)
            refine x_aloadr_n C dX1_night_128 129 rfl rfl ?_
            refine x_iload C dX1_night_129 131 rfl rfl ?_
            refine x_callV C lk_X1_226 dX1_night_131 134 rfl [_] [] rfl rfl (ct_T hR htA') (Nat.le_of_ble_eq_true rfl) (by decide) (Nat.le_refl _) (Nat.le_refl _) (kX5_inside hM (w5_Tok hw hI) (w5_Ls hw hL) htA' (show r < 2 ^ 31 by omega)) ?_
            rintro _ _ _ _ ⟨rfl, rfl, rfl, rfl⟩
            rw [hsA]
            refine x_istore C dX1_night_134 136 rfl [_, _, _, _, _, _, _, _, _, _] (by decide) rfl rfl ?_
            refine x_iload C dX1_night_136 138 rfl rfl ?_
            refine x_callS C lk_X1_199 dX1_night_138 141 rfl [_] [] rfl rfl (Nat.le_of_ble_eq_true rfl) (by decide) (Nat.le_refl _) (Nat.le_refl _) (kJ3_bitCount hsil) ?_
            rintro _ _ _ _ ⟨rfl, rfl, rfl, rfl⟩
            refine x_istore C dX1_night_141 143 rfl [_, _, _, _, _, _, _, _, _, _] (by decide) rfl rfl ?_
            refine x_ic (j := 0) C dX1_night_143 144 rfl ?_
            refine x_istore C dX1_night_144 146 rfl [_, _, _, _, _, _, _, _, _, _] (by decide) rfl rfl ?_
            exact hpeople (pn T) 0 M (Nat.zero_add _) hM hf
        have hlay : ∀ (j p : Nat) (M : Mi), p + j = 10 → CoR K S M (lyS T t (cl T) T1 p) → fzI I M → XX w κ (Zr w κ (Qp (T 473 13, sto (owR T t (cl T) f (lyS T t (cl T) T1 10) (rn T t)) 473 13 (T 473 13 + nI 1)) S I J 0)) 0 0 84 [some (.ref 0), some (.int (nI t)), some (.ref (ta K t)), some (.int f), some (.int (nI p)), none, none, none, none, none] [] S M J := by
          intro j
          induction j with
          | zero =>
            intro p M ep hM hf
            have ep : p = 10 := ep
            subst ep
            refine x_iload C dX1_night_84 86 rfl rfl ?_
            refine x_bip (j := 10) C dX1_night_86 88 rfl (by decide) ?_
            refine x_icmpgeN C dX1_night_88 91 116 rfl (by decide) (by omega) (by omega) (fun _ => ?_) (fun h88 => absurd h88 (by omega))
            refine x_ic (j := 0) C dX1_night_116 117 rfl ?_
            refine x_istore C dX1_night_117 119 rfl [_, _, _, _, _, _, _, _, _, _] (by decide) rfl rfl ?_
            exact hrooms (rn T t) 0 M (Nat.zero_add _) hM (fun b q1 q2 q3 => (lyS_n q1 _).trans (by rw [hT1]; exact sto_n _ _ _ q2)) hf
          | succ j ihp =>
            intro p M ep hM hf
            have hst := ihp (p + 1)
            rw [lyS] at hst
            obtain ⟨B, hB'⟩ : ∃ B, B = lyS T t (cl T) T1 p := ⟨_, rfl⟩
            have hw : w5 T B := fun b q1 q2 q3 => by rw [hB', lyS_n q1, hT1]; exact sto_n _ _ _ q2
            rw [← hB'] at hM hst
            have htB : t < tn B := by rw [show tn B = tn T from by show nt _ = nt _; rw [w5_473 hw]]; exact ht
            have hcB := cs_closed hM
            have hR := hM
            refine x_iload C dX1_night_84 86 rfl rfl ?_
            refine x_bip (j := 10) C dX1_night_86 88 rfl (by decide) ?_
            refine x_icmpgeN C dX1_night_88 91 116 rfl (by decide) (by omega) (by omega) (fun h88 => absurd h88 (by omega)) (fun _ => ?_)
            refine x_aloadr_n C dX1_night_91 92 rfl rfl ?_
            refine x_getr C fl_X1_59 (Or.inr ⟨_, rfl⟩) dX1_night_92 95 rfl hC.1 (coR_lay hC) ?_
            refine x_aloadr_n C dX1_night_95 96 rfl rfl ?_
            refine x_geti C fl_X1_115 (Or.inl rfl) dX1_night_96 99 rfl hC.1 (hcB.trans ((congrFun (w5_473 hw) 13).trans (tk_c hI))) ?_
            refine x_aaldr (t := 8) C dX1_night_99 100 rfl (coA_lay hC) (by decide) (coN_lay hC) rfl (by omega) (by decide) hgl.1 ?_
            refine x_iload C dX1_night_100 102 rfl rfl ?_
            refine x_aloadr_n C dX1_night_102 103 rfl rfl ?_
            refine x_getr C fl_X1_148 (Or.inr ⟨_, rfl⟩) dX1_night_103 106 rfl (ct_T hR htB) (ct_list hR htB) ?_
            refine x_iload C dX1_night_106 108 rfl rfl ?_
            refine x_iald C dX1_night_108 109 rfl (ct_listA hR htB) (ct_listN hR htB) rfl (by omega) (by decide) ((ct_listI hM htB p (by omega)).trans (congrFun (hw 490 (by decide) (by decide) (by decide)) _)) ?_
            refine x_iast C dX1_night_109 110 rfl hgl.2.1 hgl.2.2 rfl (by omega) (by decide) ?_
            refine x_iinc C dX1_night_110 113 rfl [_, _, _, _, _, _, _, _, _, _] (nI_inc _) (by decide) rfl rfl rfl ?_
            refine x_goto C dX1_night_113 84 (by decide) ?_
            exact hst _ (by omega) (CoR_lay hM hcl (by omega) _) (fz_sto hf (by omega))
        refine x_ic (j := 0) C dX1_night_81 82 rfl ?_
        refine x_istore C dX1_night_82 84 rfl [_, _, _, _, _, _, _, _, _, _] (by decide) rfl rfl ?_
        have := hlay 10 0 _ rfl (by first | exact hB | (rw [hT1]; exact hB)) hfB
        exact this
      · refine x_icm C dX1_night_46 47 rfl ?_
        exact x_iret C dX1_night_47 (Nat.le_refl _) (Nat.le_refl _) (Qp_n hR (by unfold sp_night sp_right; rw [if_neg (not_or.mpr ⟨h8, h24⟩), hTT, et, h43]; simp [no1]))
    · refine x_icm C dX1_night_27 28 rfl ?_
      exact x_iret C dX1_night_28 (Nat.le_refl _) (Nat.le_refl _) (Qp_n hR (by simp [sp_night, no1, h8, h24]))
end Co46
