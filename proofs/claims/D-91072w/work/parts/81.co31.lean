/-! the component: settle -/
abbrev cvT (T : Mi) (t : Nat) (how : Int32) (k s : Nat) : Nat := CV (fun r q => mbB T (10 * t + r) q (pn T)) (cpN T t how) (rn T t) k s
theorem smI_c {f g : Nat → Int32} : ∀ {n : Nat}, (∀ i, i < n → f i = g i) → smI f n = smI g n
  | 0, _ => rfl
  | n + 1, h => by
    show smI f n + f n = smI g n + g n
    rw [smI_c (fun i hi => h i (by omega)), h n (by omega)]
section
variable {T T' : Mi} {t : Nat} {how : Int32}
theorem cost_cs (hp : pn T ≤ 10) (hr10 : rn T t ≤ 10) (h : ¬ LDI T t how (rn T t) (al T t) = FARn) (h1 : pn T' = pn T) (h5 : rn T' t = rn T t) (h8 : T' 488 = T 488) (hl : ∀ p, p < pn T → T' 490 (10 * t + p) = fqN T t how (rn T t) p) : costI T' (pn T') t (rn T' t) = csT T t how (rn T t) := by
  unfold costI csT
  rw [h1, h5]
  refine smI_c (fun r hr => ?_)
  have hsi : si T' (pn T) t (nI r) = pk T t how r := by
    have hk := pk_st hp h hr
    have hlt : pk T t how r < 2 ^ pn T := sub_lt2 (mP_al hk.2.1).1 (msk_lt _ _)
    refine Nat.eq_of_testBit_eq (fun i => ?_)
    unfold si
    rw [msk_bit]
    by_cases hi : i < pn T
    · rw [hl i hi]
      have := (fq_spec hp hr10 h i (rn T t) (Nat.le_refl _)).2.2 r hr
      rw [decide_eq_true hi, Bool.true_and]
      cases hb : (pk T t how r).testBit i with
      | true => exact decide_eq_true (this.mpr hb)
      | false => exact decide_eq_false (fun q => by rw [this.mp q] at hb; cases hb)
    · rw [decide_eq_false hi, Bool.false_and]
      cases hb : (pk T t how r).testBit i with
      | false => rfl
      | true => exact absurd (bit_lt_n hlt hb) hi
  rw [hsi, h8]
  rfl
theorem ch_eq (hp : pn T ≤ 10) (hr10 : rn T t ≤ 10) (ht : t < tn T) (hov : ovB T t = false) (hL : LtOk T) (h : ¬ LDI T t how (rn T t) (al T t) = FARn) : cnt (fun p => (al T t).testBit p && !decide (fqN T t how (rn T t) p = T 490 (10 * t + p))) 10 = chN T t (fqN T t how (rn T t)) := by
  unfold chN
  rw [cnt_hi hp (fun i h1 _ => by rw [al_bit, decide_eq_false (by omega)]; rfl)]
  refine cnt_c (fun p hpp => ?_)
  cases hb : (al T t).testBit p with
  | true => rfl
  | false =>
    rw [al_bit, decide_eq_true hpp, Bool.true_and] at hb
    have h1 : T 490 (10 * t + p) = -1 := Classical.byContradiction fun q => by rw [hL t p ht hov hpp q] at hb; cases hb
    have h2 : fqN T t how (rn T t) p = -1 := ((fq_spec hp hr10 h p (rn T t) (Nat.le_refl _)).2.1).resolve_right (fun q => by
      have := q.1
      rw [al_bit, decide_eq_true hpp, Bool.true_and, hb] at this
      cases this)
    rw [h1, h2]
    rfl
theorem mo_eq (hp : pn T ≤ 10) (hr10 : rn T t ≤ 10) (h : ¬ LDI T t how (rn T t) (al T t) = FARn) : cnt (fun p => (al T t).testBit p && !decide (fqN T t how (rn T t) p = T 490 (10 * t + p)) && !decide (T 490 (10 * t + p) = -1)) 10 = mvT T t how (rn T t) := by
  rw [mv_spec hp hr10 h (rn T t) (Nat.le_refl _), cnt_hi hp (fun i h1 _ => by rw [al_bit, decide_eq_false (by omega)]; rfl)]
  refine cnt_c (fun p hpp => ?_)
  obtain ⟨h1, h2, -⟩ := fq_spec hp hr10 h p (rn T t) (Nat.le_refl _)
  rw [st_end hp h, Nat.zero_testBit] at h1
  cases hb : (al T t).testBit p with
  | true =>
    rw [hb, Bool.true_and] at h1
    rw [← h1]
    cases decide (T 490 (10 * t + p) = -1) <;> simp
  | false =>
    have : fqN T t how (rn T t) p = -1 := h2.resolve_right (fun q => by rw [q.1] at hb; cases hb)
    rw [this]
    simp
theorem Tok_nt (hI : Tok T) {fr : Nat → Int32} {p : Nat} (hb : nn T + cnt (fun p => !decide (fr p = T 490 (10 * t + p))) p ≤ 500) : Tok (ntS T t fr p) := by
  obtain ⟨g1, g2, g3, g4, g5, g6, g7, g8⟩ := hI
  unfold Tok
  have r := fun (i : Nat) (h : i ≠ 26) => ntS_473 (T := T) (t := t) fr h p
  rw [r 1 (by decide), r 11 (by decide), r 12 (by decide), r 13 (by decide), r 41 (by decide), r 63 (by decide), ntS_cnt fr g5.1, ntS_row fr (by decide)]
  have hb : nt (T 473 26) + cnt (fun p => !decide (fr p = T 490 (10 * t + p))) p ≤ 500 := hb
  refine ⟨g1, g2, g3, g4, ⟨?_, ?_⟩, g6, g7, g8⟩
  · rw [nt_nI (by omega)]
  · rw [nt_nI (by omega)]
    exact hb
end
section Co31
variable {w : Wd} {l : Launch} {K : Ly} {S : Sh} {I T : Mi} {J : Ml}
theorem kX1_settle (hR : CoR K S I T) (hI : Tok T) (hF : FrOk T) (hL : LsOk T) (hLt : LtOk T) (hbe : ∀ t, t < tn T → bedsOk T t) (hpr : ∀ t, t < tn T → prOk T t) {t how : Int32} : Ct w l yX1_settle cX1_settle 10 (some .int) 4 0 0 [.ref 0, .int t, .int how] S I J (Qp (sp_settle T t how) S I J 0) := by
  refine Ct.of [some _, some _, some _, none, none, none, none, none, none, none] rfl (Nat.le_of_ble_eq_true rfl) (by decide) ?_
  intro κ hκ C
  subst hκ
  have hC := cr_S hR
  have hp10 := tk_p2 hI
  have ht6 := tk_t2 hI
  have hg30 := tk_g2 hI
  have hc30 := tk_c2 hI
  have hn500 := tk_n2 hI
  refine x_aloadr_n C dX1_settle_0 1 rfl rfl ?_
  refine x_iload_n C dX1_settle_1 2 rfl rfl ?_
  refine x_callV C lk_X1_124 dX1_settle_2 5 rfl [_] [] rfl rfl hC.1 (Nat.le_of_ble_eq_true rfl) (by decide) (Nat.le_refl _) (Nat.le_refl _) (kX1_isTown hR) ?_
  rintro _ _ _ _ ⟨rfl, rfl, rfl, rfl⟩
  refine x_ifeqZ C dX1_settle_5 8 25 rfl (by decide) (fun h5 => ?_) (fun h5 => ?_)
  · refine x_icm C dX1_settle_25 26 rfl ?_
    exact x_iret C dX1_settle_26 (Nat.le_refl _) (Nat.le_refl _) (Qp_n hR (by simp [sp_settle, opB, no1, h5]))
  · obtain ⟨t, ht, rfl⟩ := to_I hI h5
    have et : nt (nI t) = t := nt_nI (by omega)
    refine x_iload_n C dX1_settle_8 9 rfl rfl ?_
    refine x_ic (j := 0) C dX1_settle_9 10 rfl ?_
    refine x_ic (j := 1) C dX1_settle_10 11 rfl ?_
    refine x_callS C lk_X1_108 dX1_settle_11 14 rfl [_, _, _] [] rfl rfl (Nat.le_of_ble_eq_true rfl) (by decide) (Nat.le_refl _) (Nat.le_refl _) kX1_in ?_
    rintro _ _ _ _ ⟨rfl, rfl, rfl, rfl⟩
    refine x_ifeqZ C dX1_settle_14 17 25 rfl (by decide) (fun h14 => ?_) (fun h14 => ?_)
    · refine x_icm C dX1_settle_25 26 rfl ?_
      exact x_iret C dX1_settle_26 (Nat.le_refl _) (Nat.le_refl _) (Qp_n hR (by simp [sp_settle, opB, no1, h5, et, h14]))
    · refine x_aloadr_n C dX1_settle_17 18 rfl rfl ?_
      refine x_iload_n C dX1_settle_18 19 rfl rfl ?_
      refine x_callV C lk_X1_157 dX1_settle_19 22 rfl [_] [] rfl rfl hC.1 (Nat.le_of_ble_eq_true rfl) (by decide) (Nat.le_refl _) (Nat.le_refl _) (kX1_isOver hR hI ht) ?_
      rintro _ _ _ _ ⟨rfl, rfl, rfl, rfl⟩
      refine x_ifeqZ C dX1_settle_22 25 27 rfl (by decide) (fun h22 => ?_) (fun h22 => ?_)
      · have hr10 := tk_r2 hI (show t < 6 by omega)
        have hal2 : al T t < 2 ^ pn T := msk_lt _ _
        have hal : al T t < 1024 := al_lt T t hp10
        have hFc : FARc = 1125899906842624 := rfl
        have haa : nd (al T t) (al T t) = 0 := sub_nd (fun i h => h)
        obtain ⟨wa, wb, α, β, hW⟩ := WOk_T hI ht (hbe t ht) (hpr t ht) how
        have hcap : ∀ k s, cvT T t how k s ≤ FARc := fun k s => CV_cap _ _ _ k s
        have hsp : sp_settle T (nI t) how = if LDI T t how (rn T t) (al T t) = FARn then no1 T else tkS T t how := by
          unfold sp_settle
          rw [et, if_pos (by simp [opB, h5, et, h14, h22])]
        have h150 : ∀ (J1 : Ml), (∀ r, r ≤ rn T t → ∀ u, u < 1024 → nd u (al T t) = 0 → J1 (73 + r) u = nL (cvT T t how (rn T t - r) u)) → fzJ J J1 → XX w κ (Zr w κ (Qp (sp_settle T (nI t) how) S I J 0)) 0 0 150 [some (.ref 0), some (.int (nI t)), some (.int how), some (.ref (ta K t)), some (.int (nI (al T t))), some (.int (nI (rn T t))), none, none, none, none] [] S I J1 := by
          intro J1 hrows hf
          have hg := hC.2.2.2.2.1 0 (by omega)
          have hN : ¬ LDI T t how (rn T t) (al T t) = FARn → nn T + chN T t (fqN T t how (rn T t)) ≤ 500 → ∀ (M0 : Nat → Int32), (∀ p, p < 10 → (al T t).testBit p = true → M0 p = fqN T t how (rn T t) p) → ∀ (j p : Nat) (M : Mi), p + j = 10 → CoR K S M (ntS T t (fqN T t how (rn T t)) (min p (pn T))) → fzI I M → M 84 = M0 → XX w κ (Zr w κ (Qp (sp_settle T (nI t) how) S I J 0)) 0 0 349 [some (.ref 0), some (.int (nI t)), some (.int how), some (.ref (ta K t)), some (.int (nI (al T t))), some (.int (nI (rn T t))), none, none, some (.int (nI (mvT T t how (rn T t)))), some (.int (nI p))] [] S M J1 := by
            intro hfin hch M0 hM0 j
            induction j with
            | zero =>
              intro p M e hM hfz h84
              have e : p = 10 := e
              subst e
              rw [Nat.min_eq_right hp10] at hM
              have hTk : Tok (ntS T t (fqN T t how (rn T t)) (pn T)) := Tok_nt hI hch
              have hM2 := CoR_moved hM (nI (mvT T t how (rn T t)))
              have r473 := fun (i : Nat) (h : i ≠ 26) => ntS_473 (T := T) (t := t) (fqN T t how (rn T t)) h (pn T)
              have rrow := fun (a : Nat) (h : a ≠ 473 ∧ a ≠ 490 ∧ a ≠ 491 ∧ a ≠ 492 ∧ a ≠ 493) => ntS_row (T := T) (t := t) (fqN T t how (rn T t)) h (pn T)
              have e1 : pn (sto (ntS T t (fqN T t how (rn T t)) (pn T)) 473 37 (nI (mvT T t how (rn T t)))) = pn T := by show nt (ntS T t (fqN T t how (rn T t)) (pn T) 473 1) = nt (T 473 1); rw [r473 1 (by decide)]
              have e11 : tn (sto (ntS T t (fqN T t how (rn T t)) (pn T)) 473 37 (nI (mvT T t how (rn T t)))) = tn T := by show nt (ntS T t (fqN T t how (rn T t)) (pn T) 473 11) = nt (T 473 11); rw [r473 11 (by decide)]
              have e5 : ∀ v, rn (sto (ntS T t (fqN T t how (rn T t)) (pn T)) 473 37 (nI (mvT T t how (rn T t)))) v = rn T v := fun v => by show nt (ntS T t (fqN T t how (rn T t)) (pn T) 485 v) = nt (T 485 v); rw [rrow 485 (by decide)]
              have el := ntS_list (T := T) (t := t) (fqN T t how (rn T t)) (pn T)
              have hLs : LsOk (sto (ntS T t (fqN T t how (rn T t)) (pn T)) 473 37 (nI (mvT T t how (rn T t)))) := by
                intro v p hv hp
                rw [e11] at hv
                rw [e5, e1]
                show (ntS T t (fqN T t how (rn T t)) (pn T) 490 (10 * v + p) = -1 ∨ ∃ r, r < rn T v ∧ ntS T t (fqN T t how (rn T t)) (pn T) 490 (10 * v + p) = nI r) ∧ (pn T ≤ p → ntS T t (fqN T t how (rn T t)) (pn T) 490 (10 * v + p) = -1)
                rw [el]
                by_cases hc : 10 * t ≤ 10 * v + p ∧ 10 * v + p < 10 * t + pn T
                · have hvt : v = t := by omega
                  subst hvt
                  rw [if_pos hc, show 10 * v + p - 10 * v = p by omega]
                  refine ⟨?_, fun q => by omega⟩
                  rcases (fq_spec hp10 hr10 hfin p (rn T v) (Nat.le_refl _)).2.1 with z | ⟨-, z⟩
                  · exact Or.inl z
                  · exact Or.inr z
                · rw [if_neg hc]
                  exact hL v p hv hp
              have hcost := cost_cs hp10 hr10 hfin e1 (e5 t) (show sto (ntS T t (fqN T t how (rn T t)) (pn T)) 473 37 (nI (mvT T t how (rn T t))) 488 = T 488 from rrow 488 (by decide)) (fun p hp => by
                show ntS T t (fqN T t how (rn T t)) (pn T) 490 (10 * t + p) = _
                rw [el, if_pos (by omega), show 10 * t + p - 10 * t = p by omega])
              refine x_iload C dX1_settle_349 351 rfl rfl ?_
              refine x_bip (j := 10) C dX1_settle_351 353 rfl (by decide) ?_
              refine x_icmpgeN C dX1_settle_353 356 404 rfl (by decide) (by omega) (by omega) (fun _ => ?_) (fun h353 => absurd h353 (by decide))
              refine x_aloadr_n C dX1_settle_404 405 rfl rfl ?_
              refine x_iload C dX1_settle_405 407 rfl rfl ?_
              refine x_puti C fl_X1_25 (Or.inl rfl) (Or.inl rfl) dX1_settle_407 410 rfl hC.1 ?_
              refine x_aloadr_n C dX1_settle_410 411 rfl rfl ?_
              refine x_callV C lk_X1_265 dX1_settle_411 414 rfl [] [] rfl rfl (ct_T hR ht) (Nat.le_of_ble_eq_true rfl) (by decide) (Nat.le_refl _) (Nat.le_refl _) (kX5_cost hM2 hTk hLs (by rw [e11]; exact ht)) ?_
              rintro _ _ _ _ ⟨rfl, rfl, rfl, rfl⟩
              rw [hcost]
              exact x_iret C dX1_settle_414 (Nat.le_refl _) (Nat.le_refl _) (Qp_a (by rw [hsp, if_neg hfin]; unfold tkS; rw [if_pos hch]) hM2 (fz_sto hfz (by decide)) fzS_rfl hf (Nat.le_add_right _ _))
            | succ j ih =>
              intro p M e hM hfz h84
              have hmin : min p (pn T) ≤ pn T := Nat.min_le_right _ _
              have hcm := cnt_mono (fun p => !decide (fqN T t how (rn T t) p = T 490 (10 * t + p))) hmin
              have hTk : Tok (ntS T t (fqN T t how (rn T t)) (min p (pn T))) := Tok_nt hI (by unfold chN at hch; omega)
              have e11 : tn (ntS T t (fqN T t how (rn T t)) (min p (pn T))) = tn T := by show nt _ = nt _; rw [ntS_473 _ (by decide)]
              have el : ntS T t (fqN T t how (rn T t)) (min p (pn T)) 490 (10 * t + p) = T 490 (10 * t + p) := by rw [ntS_list, if_neg (by omega)]
              have en : nn (ntS T t (fqN T t how (rn T t)) (min p (pn T))) = nn T + cnt (fun p => !decide (fqN T t how (rn T t) p = T 490 (10 * t + p))) (min p (pn T)) := by show nt _ = _; rw [ntS_cnt _ (tk_n hI), nt_nI (by unfold chN at hch; omega)]
              have hstay : (p < pn T → fqN T t how (rn T t) p = T 490 (10 * t + p)) → CoR K S M (ntS T t (fqN T t how (rn T t)) (min (p + 1) (pn T))) := by
                intro hq
                by_cases hlt : p < pn T
                · rw [Nat.min_eq_left (by omega)]
                  rw [Nat.min_eq_left (by omega)] at hM el
                  show CoR K S M (noteT (ntS T t (fqN T t how (rn T t)) p) t p (fqN T t how (rn T t) p))
                  unfold noteT
                  rw [if_pos (by rw [el, hq hlt])]
                  exact hM
                · rw [Nat.min_eq_right (by omega)]
                  rw [Nat.min_eq_right (by omega)] at hM
                  exact hM
              have hout : (al T t).testBit p = false → p < pn T → fqN T t how (rn T t) p = T 490 (10 * t + p) := by
                intro hb hlt
                have h2 : fqN T t how (rn T t) p = -1 := ((fq_spec hp10 hr10 hfin p (rn T t) (Nat.le_refl _)).2.1).resolve_right (fun q => by rw [q.1] at hb; cases hb)
                rw [al_bit, decide_eq_true hlt, Bool.true_and] at hb
                rw [h2]
                have h3 : T 490 (10 * t + p) = -1 := Classical.byContradiction fun q => by rw [hLt t p ht h22 hlt q] at hb; cases hb
                rw [h3]
              refine x_iload C dX1_settle_349 351 rfl rfl ?_
              refine x_bip (j := 10) C dX1_settle_351 353 rfl (by decide) ?_
              refine x_icmpgeN C dX1_settle_353 356 404 rfl (by decide) (by omega) (by omega) (fun h353 => absurd h353 (by omega)) (fun _ => ?_)
              refine x_iload C dX1_settle_356 358 rfl rfl ?_
              refine x_iload C dX1_settle_358 360 rfl rfl ?_
              refine x_ishr C dX1_settle_360 361 rfl (nI_shrp _ _ (by omega) (by omega)) ?_
              refine x_ic (j := 1) C dX1_settle_361 362 rfl ?_
              refine x_iand C dX1_settle_362 363 rfl (nI_bit _ _) ?_
              refine x_ic (j := 1) C dX1_settle_363 364 rfl ?_
              refine x_icmpneN C dX1_settle_364 367 398 rfl (by decide) (by have := bit_lt (al T t) p; omega) (by have := bit_lt (al T t) p; omega) (fun h364 => ?_) (fun h364 => ?_)
              · have hb : (al T t).testBit p = false := by { rw [← bit_0]; have := bit_lt (al T t) p; omega }
                have hnx := hstay (hout hb)
                refine x_iinc C dX1_settle_398 401 rfl [_, _, _, _, _, _, _, _, _, _] (nI_inc _) (by decide) rfl rfl rfl ?_
                refine x_goto C dX1_settle_401 349 (by decide) ?_
                exact ih (p + 1) _ (by omega) hnx hfz h84
              · have hb := (bit_1 _ _).mp h364
                have hlt : p < pn T := by rw [al_bit] at hb; exact of_decide_eq_true (Bool.and_eq_true_iff.mp hb).1
                have hv84 : M 84 p = fqN T t how (rn T t) p := by rw [h84]; exact hM0 p (by omega) hb
                refine x_aloadr_n C dX1_settle_367 368 rfl rfl ?_
                refine x_getr C fl_X1_70 (Or.inr ⟨_, rfl⟩) dX1_settle_368 371 rfl hC.1 (coR_fresh hC) ?_
                refine x_iload C dX1_settle_371 373 rfl rfl ?_
                refine x_iald C dX1_settle_373 374 rfl (coA_fresh hC) (coN_fresh hC) rfl (by omega) (by decide) hv84 ?_
                refine x_aloadr_n C dX1_settle_374 375 rfl rfl ?_
                refine x_getr C fl_X1_148 (Or.inr ⟨_, rfl⟩) dX1_settle_375 378 rfl (ct_T hR ht) (ct_list hM (by rw [e11]; exact ht)) ?_
                refine x_iload C dX1_settle_378 380 rfl rfl ?_
                refine x_iald C dX1_settle_380 381 rfl (ct_listA hR ht) (ct_listN hR ht) rfl (by omega) (by decide) ((ct_listI hM (by rw [e11]; exact ht) _ (by omega)).trans el) ?_
                refine x_icmpeq C dX1_settle_381 384 398 rfl (by decide) (fun h381 => ?_) (fun h381 => ?_)
                · have hnx := hstay (fun _ => h381)
                  refine x_iinc C dX1_settle_398 401 rfl [_, _, _, _, _, _, _, _, _, _] (nI_inc _) (by decide) rfl rfl rfl ?_
                  refine x_goto C dX1_settle_401 349 (by decide) ?_
                  exact ih (p + 1) _ (by omega) hnx hfz h84
                · have hc1 := cnt_mono (fun p => !decide (fqN T t how (rn T t) p = T 490 (10 * t + p))) (show p + 1 ≤ pn T by omega)
                  rw [cnt_t (by simp [h381])] at hc1
                  have hn5 : nn (ntS T t (fqN T t how (rn T t)) (min p (pn T))) < 500 := by
                    rw [en, Nat.min_eq_left (by omega)]
                    unfold chN at hch
                    omega
                  have ht11 : t < tn (ntS T t (fqN T t how (rn T t)) (min p (pn T))) := by rw [e11]; exact ht
                  have hnew := CoR_note hM hTk (room := fqN T t how (rn T t) p) ht11 (show p < 10 by omega) hn5
                  have hfz2 := fz_tr hfz (fz_note hM (p := p) (n := nn (ntS T t (fqN T t how (rn T t)) (min p (pn T)))) (room := fqN T t how (rn T t) p) (dy := ntS T t (fqN T t how (rn T t)) (min p (pn T)) 473 14) (nm := ntS T t (fqN T t how (rn T t)) (min p (pn T)) 473 26 + nI 1) ht11)
                  have hnx : CoR K S (cnS K M t p (nn (ntS T t (fqN T t how (rn T t)) (min p (pn T)))) (fqN T t how (rn T t) p) (ntS T t (fqN T t how (rn T t)) (min p (pn T)) 473 14) (ntS T t (fqN T t how (rn T t)) (min p (pn T)) 473 26 + nI 1)) (ntS T t (fqN T t how (rn T t)) (min (p + 1) (pn T))) := by
                    rw [Nat.min_eq_left (show p + 1 ≤ pn T by omega)]
                    rw [Nat.min_eq_left (show p ≤ pn T by omega)] at hnew el ⊢
                    show CoR K S _ (noteT (ntS T t (fqN T t how (rn T t)) p) t p (fqN T t how (rn T t) p))
                    unfold noteT
                    rw [if_neg (by rw [el]; exact fun q => h381 q.symm)]
                    exact hnew
                  have h842 : cnS K M t p (nn (ntS T t (fqN T t how (rn T t)) (min p (pn T)))) (fqN T t how (rn T t) p) (ntS T t (fqN T t how (rn T t)) (min p (pn T)) 473 14) (ntS T t (fqN T t how (rn T t)) (min p (pn T)) 473 26 + nI 1) 84 = M0 := by
                    rw [cnS_n (by have := ((cr_ly hM).2.2.2.2.1 t ht11).1; omega) (by decide) (by decide) (by decide) (by decide) (by decide)]
                    exact h84
                  refine x_aloadr_n C dX1_settle_384 385 rfl rfl ?_
                  refine x_iload_n C dX1_settle_385 386 rfl rfl ?_
                  refine x_iload C dX1_settle_386 388 rfl rfl ?_
                  refine x_aloadr_n C dX1_settle_388 389 rfl rfl ?_
                  refine x_getr C fl_X1_70 (Or.inr ⟨_, rfl⟩) dX1_settle_389 392 rfl hC.1 (coR_fresh hC) ?_
                  refine x_iload C dX1_settle_392 394 rfl rfl ?_
                  refine x_iald C dX1_settle_394 395 rfl (coA_fresh hC) (coN_fresh hC) rfl (by omega) (by decide) hv84 ?_
                  refine x_callV C lk_X1_164 dX1_settle_395 398 rfl [_, _, _] [] rfl rfl hC.1 (Nat.le_of_ble_eq_true rfl) (by decide) (Nat.le_refl _) (Nat.le_refl _) (kX1_noteX hM hTk ht11 (by omega) hn5) ?_
                  rintro _ _ _ _ ⟨rfl, rfl, rfl, rfl⟩
                  refine x_iinc C dX1_settle_398 401 rfl [_, _, _, _, _, _, _, _, _, _] (nI_inc _) (by decide) rfl rfl rfl ?_
                  refine x_goto C dX1_settle_401 349 (by decide) ?_
                  exact ih (p + 1) _ (by omega) hnx hfz2 h842
          have hE : ¬ LDI T t how (rn T t) (al T t) = FARn → ∀ (M : Mi), (∀ a, a ≠ 84 → M a = I a) → (∀ p, p < 10 → (al T t).testBit p = true → M 84 p = fqN T t how (rn T t) p) → ∀ (j p c o : Nat), p + j = 10 → c = cnt (fun p => (al T t).testBit p && !decide (fqN T t how (rn T t) p = T 490 (10 * t + p))) p → o = cnt (fun p => (al T t).testBit p && !decide (fqN T t how (rn T t) p = T 490 (10 * t + p)) && !decide (T 490 (10 * t + p) = -1)) p → XX w κ (Zr w κ (Qp (sp_settle T (nI t) how) S I J 0)) 0 0 264 [some (.ref 0), some (.int (nI t)), some (.int how), some (.ref (ta K t)), some (.int (nI (al T t))), some (.int (nI (rn T t))), none, some (.int (nI c)), some (.int (nI o)), some (.int (nI p))] [] S M J1 := by
            intro hfin M hMi hM84 j
            have hMR : CoR K S M T := CoR_84 hR hMi
            have hMz : fzI I M := fun a q1 q2 => hMi a (by omega)
            induction j with
            | zero =>
              intro p c o e hc ho
              have e : p = 10 := e
              subst e
              rw [ch_eq hp10 hr10 ht h22 hLt hfin] at hc
              rw [mo_eq hp10 hr10 hfin] at ho
              subst hc
              subst ho
              have hcl : chN T t (fqN T t how (rn T t)) ≤ 10 := Nat.le_trans (cnt_le _ _) hp10
              refine x_iload C dX1_settle_264 266 rfl rfl ?_
              refine x_bip (j := 10) C dX1_settle_266 268 rfl (by decide) ?_
              refine x_icmpgeN C dX1_settle_268 271 331 rfl (by decide) (by omega) (by omega) (fun _ => ?_) (fun h268 => absurd h268 (by decide))
              refine x_aloadr_n C dX1_settle_331 332 rfl rfl ?_
              refine x_geti C fl_X1_151 (Or.inl rfl) dX1_settle_332 335 rfl hC.1 ((cs_noteMany hMR).trans (tk_n hI)) ?_
              refine x_iload C dX1_settle_335 337 rfl rfl ?_
              refine x_iadd C dX1_settle_337 338 rfl (nI_add _ _) ?_
              refine x_sip (j := 500) C dX1_settle_338 341 rfl (by decide) ?_
              refine x_icmpleN C dX1_settle_341 344 346 rfl (by decide) (by omega) (by omega) (fun h341 => ?_) (fun h341 => ?_)
              · refine x_ic (j := 0) C dX1_settle_346 347 rfl ?_
                refine x_istore C dX1_settle_347 349 rfl [_, _, _, _, _, _, _, _, _, _] (by decide) rfl rfl ?_
                refine x_ls [some _, some _, some _, some _, some _, some _, none, none, some _, some _] ⟨rfl, rfl, rfl, rfl, rfl, rfl, rfl, rfl, trivial⟩ ?_
                exact hN hfin (by omega) (M 84) hM84 10 0 M rfl (by rw [Nat.zero_min]; exact hMR) hMz rfl
              · refine x_icm C dX1_settle_344 345 rfl ?_
                exact x_iret C dX1_settle_345 (Nat.le_refl _) (Nat.le_refl _) (Qp_a (by rw [hsp, if_neg hfin]; unfold tkS; rw [if_neg (by omega)]; rfl) hMR hMz fzS_rfl hf (Nat.le_add_right _ _))
            | succ j ih =>
              intro p c o e hc ho
              refine x_iload C dX1_settle_264 266 rfl rfl ?_
              refine x_bip (j := 10) C dX1_settle_266 268 rfl (by decide) ?_
              refine x_icmpgeN C dX1_settle_268 271 331 rfl (by decide) (by omega) (by omega) (fun h268 => absurd h268 (by omega)) (fun _ => ?_)
              refine x_iload C dX1_settle_271 273 rfl rfl ?_
              refine x_iload C dX1_settle_273 275 rfl rfl ?_
              refine x_ishr C dX1_settle_275 276 rfl (nI_shrp _ _ (by omega) (by omega)) ?_
              refine x_ic (j := 1) C dX1_settle_276 277 rfl ?_
              refine x_iand C dX1_settle_277 278 rfl (nI_bit _ _) ?_
              refine x_ifeqN C dX1_settle_278 281 325 rfl (by decide) (by have := bit_lt (al T t) p; omega) (fun h278 => ?_) (fun h278 => ?_)
              · have hb := (bit_0 _ _).mp h278
                refine x_iinc C dX1_settle_325 328 rfl [_, _, _, _, _, _, _, _, _, _] (nI_inc _) (by decide) rfl rfl rfl ?_
                refine x_goto C dX1_settle_328 264 (by decide) ?_
                exact ih (p + 1) c o (by omega) (by rw [cnt_f (by simp [hb])]; exact hc) (by rw [cnt_f (by simp [hb])]; exact ho)
              · have hb : (al T t).testBit p = true := by { rw [← bit_1]; have := bit_lt (al T t) p; omega }
                have hv84 := hM84 p (by omega) hb
                refine x_aloadr_n C dX1_settle_281 282 rfl rfl ?_
                refine x_getr C fl_X1_70 (Or.inr ⟨_, rfl⟩) dX1_settle_282 285 rfl hC.1 (coR_fresh hC) ?_
                refine x_iload C dX1_settle_285 287 rfl rfl ?_
                refine x_iald C dX1_settle_287 288 rfl (coA_fresh hC) (coN_fresh hC) rfl (by omega) (by decide) hv84 ?_
                refine x_aloadr_n C dX1_settle_288 289 rfl rfl ?_
                refine x_getr C fl_X1_148 (Or.inr ⟨_, rfl⟩) dX1_settle_289 292 rfl (ct_T hR ht) (ct_list hMR ht) ?_
                refine x_iload C dX1_settle_292 294 rfl rfl ?_
                refine x_iald C dX1_settle_294 295 rfl (ct_listA hR ht) (ct_listN hR ht) rfl (by omega) (by decide) (ct_listI hMR ht _ (by omega)) ?_
                refine x_icmpne C dX1_settle_295 298 301 rfl (by decide) (fun h295 => ?_) (fun h295 => ?_)
                · refine x_iinc C dX1_settle_301 304 rfl [_, _, _, _, _, _, _, _, _, _] (nI_inc _) (by decide) rfl rfl rfl ?_
                  refine x_iload C dX1_settle_304 306 rfl rfl ?_
                  refine x_aloadr_n C dX1_settle_306 307 rfl rfl ?_
                  refine x_getr C fl_X1_148 (Or.inr ⟨_, rfl⟩) dX1_settle_307 310 rfl (ct_T hR ht) (ct_list hMR ht) ?_
                  refine x_iload C dX1_settle_310 312 rfl rfl ?_
                  refine x_iald C dX1_settle_312 313 rfl (ct_listA hR ht) (ct_listN hR ht) rfl (by omega) (by decide) (ct_listI hMR ht _ (by omega)) ?_
                  refine x_icm C dX1_settle_313 314 rfl ?_
                  refine x_icmpne C dX1_settle_314 317 321 rfl (by decide) (fun h314 => ?_) (fun h314 => ?_)
                  · refine x_ic (j := 1) C dX1_settle_321 322 rfl ?_
                    refine x_iadd C dX1_settle_322 323 rfl (nI_add _ _) ?_
                    refine x_istore C dX1_settle_323 325 rfl [_, _, _, _, _, _, _, _, _, _] (by decide) rfl rfl ?_
                    refine x_iinc C dX1_settle_325 328 rfl [_, _, _, _, _, _, _, _, _, _] (nI_inc _) (by decide) rfl rfl rfl ?_
                    refine x_goto C dX1_settle_328 264 (by decide) ?_
                    first
                      | exact ih (p + 1) c o (by omega) (by rw [cnt_f (by simp [h295])]; exact hc) (by rw [cnt_f (by simp [h295])]; exact ho)
                      | exact ih (p + 1) (c + 1) (o + 1) (by omega) (by rw [cnt_t (by simp [hb, h295]), hc]) (by rw [cnt_t (by simp [hb, h295, h314]), ho])
                      | exact ih (p + 1) (c + 1) (o + 0) (by omega) (by rw [cnt_t (by simp [hb, h295]), hc]) (by rw [cnt_f (by simp [h314]), ho]; rfl)
                  · refine x_ic (j := 0) C dX1_settle_317 318 rfl ?_
                    refine x_goto C dX1_settle_318 322 (by decide) ?_
                    refine x_iadd C dX1_settle_322 323 rfl (nI_add _ _) ?_
                    refine x_istore C dX1_settle_323 325 rfl [_, _, _, _, _, _, _, _, _, _] (by decide) rfl rfl ?_
                    refine x_iinc C dX1_settle_325 328 rfl [_, _, _, _, _, _, _, _, _, _] (nI_inc _) (by decide) rfl rfl rfl ?_
                    refine x_goto C dX1_settle_328 264 (by decide) ?_
                    first
                      | exact ih (p + 1) c o (by omega) (by rw [cnt_f (by simp [h295])]; exact hc) (by rw [cnt_f (by simp [h295])]; exact ho)
                      | exact ih (p + 1) (c + 1) (o + 1) (by omega) (by rw [cnt_t (by simp [hb, h295]), hc]) (by rw [cnt_t (by simp [hb, h295, h314]), ho])
                      | exact ih (p + 1) (c + 1) (o + 0) (by omega) (by rw [cnt_t (by simp [hb, h295]), hc]) (by rw [cnt_f (by simp [h314]), ho]; rfl)
                · refine x_goto C dX1_settle_298 325 (by decide) ?_
                  refine x_iinc C dX1_settle_325 328 rfl [_, _, _, _, _, _, _, _, _, _] (nI_inc _) (by decide) rfl rfl rfl ?_
                  refine x_goto C dX1_settle_328 264 (by decide) ?_
                  first
                    | exact ih (p + 1) c o (by omega) (by rw [cnt_f (by simp [h295])]; exact hc) (by rw [cnt_f (by simp [h295])]; exact ho)
                    | exact ih (p + 1) (c + 1) (o + 1) (by omega) (by rw [cnt_t (by simp [hb, h295]), hc]) (by rw [cnt_t (by simp [hb, h295, h314]), ho])
                    | exact ih (p + 1) (c + 1) (o + 0) (by omega) (by rw [cnt_t (by simp [hb, h295]), hc]) (by rw [cnt_f (by simp [h314]), ho]; rfl)
          have hD : ¬ LDI T t how (rn T t) (al T t) = FARn → ∀ (j r : Nat) (M : Mi), r + j = rn T t → (∀ a, a ≠ 84 → M a = I a) → (∀ p, p < 10 → (al T t).testBit p = true → (stN T t how r).testBit p = false → M 84 p = fqN T t how r p) → XX w κ (Zr w κ (Qp (sp_settle T (nI t) how) S I J 0)) 0 0 175 [some (.ref 0), some (.int (nI t)), some (.int how), some (.ref (ta K t)), some (.int (nI (al T t))), some (.int (nI (rn T t))), some (.int (nI (stN T t how r))), some (.int (nI r)), none, none] [] S M J1 := by
            intro hfin j
            induction j with
            | zero =>
              intro r M e hMi hM84
              have e : r = rn T t := e
              subst e
              refine x_iload C dX1_settle_175 177 rfl rfl ?_
              refine x_iload C dX1_settle_177 179 rfl rfl ?_
              refine x_icmpgeN C dX1_settle_179 182 255 rfl (by decide) (by omega) (by omega) (fun _ => ?_) (fun h179 => absurd h179 (by omega))
              refine x_ic (j := 0) C dX1_settle_255 256 rfl ?_
              refine x_istore C dX1_settle_256 258 rfl [_, _, _, _, _, _, _, _, _, _] (by decide) rfl rfl ?_
              refine x_ic (j := 0) C dX1_settle_258 259 rfl ?_
              refine x_istore C dX1_settle_259 261 rfl [_, _, _, _, _, _, _, _, _, _] (by decide) rfl rfl ?_
              refine x_ic (j := 0) C dX1_settle_261 262 rfl ?_
              refine x_istore C dX1_settle_262 264 rfl [_, _, _, _, _, _, _, _, _, _] (by decide) rfl rfl ?_
              refine x_ls [some _, some _, some _, some _, some _, some _, none, some _, some _, some _] ⟨rfl, rfl, rfl, rfl, rfl, rfl, rfl, rfl, rfl, trivial⟩ ?_
              exact hE hfin M hMi (fun p q1 q2 => hM84 p q1 q2 (by rw [st_end hp10 hfin, Nat.zero_testBit])) 10 0 0 0 rfl rfl rfl
            | succ j ih =>
              intro r M e hMi hM84
              have hrr : r < rn T t := by omega
              obtain ⟨s1, s2⟩ := st_ok hp10 hfin r (by omega)
              obtain ⟨k1, k2, k3⟩ := pk_st hp10 hfin hrr
              have hsal := st_al (T := T) (t := t) (how := how) r
              have hst : stN T t how (r + 1) = nd (stN T t how r) (pk T t how r) := rfl
              have hpk : pkP T t how r (stN T t how r) (pk T t how r) = true := (pk_ok hrr s2).2
              have hFr : ∀ (j p : Nat) (M : Mi), p + j = 10 → (∀ a, a ≠ 84 → M a = I a) → (∀ p, p < 10 → (al T t).testBit p = true → (stN T t how r).testBit p = false → M 84 p = fqN T t how r p) → (∀ i, i < p → (pk T t how r).testBit i = true → M 84 i = nI r) → XX w κ (Zr w κ (Qp (sp_settle T (nI t) how) S I J 0)) 0 0 209 [some (.ref 0), some (.int (nI t)), some (.int how), some (.ref (ta K t)), some (.int (nI (al T t))), some (.int (nI (rn T t))), some (.int (nI (stN T t how r))), some (.int (nI r)), some (.int (nI (pk T t how r))), some (.int (nI p))] [] S M J1 := by
                intro j
                induction j with
                | zero =>
                  intro p M e hMi hM84 hMp
                  have e : p = 10 := e
                  subst e
                  refine x_iload C dX1_settle_209 211 rfl rfl ?_
                  refine x_bip (j := 10) C dX1_settle_211 213 rfl (by decide) ?_
                  refine x_icmpgeN C dX1_settle_213 216 242 rfl (by decide) (by omega) (by omega) (fun _ => ?_) (fun h213 => absurd h213 (by decide))
                  refine x_iload C dX1_settle_242 244 rfl rfl ?_
                  refine x_iload C dX1_settle_244 246 rfl rfl ?_
                  refine x_ixor C dX1_settle_246 247 rfl ((nI_xor _ _).trans (congrArg nI ((xor_nd k3).trans hst.symm))) ?_
                  refine x_istore C dX1_settle_247 249 rfl [_, _, _, _, _, _, _, _, _, _] (by decide) rfl rfl ?_
                  refine x_iinc C dX1_settle_249 252 rfl [_, _, _, _, _, _, _, _, _, _] (nI_inc _) (by decide) rfl rfl rfl ?_
                  refine x_goto C dX1_settle_252 175 (by decide) ?_
                  refine x_ls [some _, some _, some _, some _, some _, some _, some _, some _, none, none] ⟨rfl, rfl, rfl, rfl, rfl, rfl, rfl, rfl, trivial⟩ ?_
                  refine ih (r + 1) M (by omega) hMi (fun i q1 q2 q3 => ?_)
                  have hfq : fqN T t how (r + 1) i = if (pk T t how r).testBit i = true then nI r else fqN T t how r i := rfl
                  rw [hfq]
                  cases hb : (pk T t how r).testBit i with
                  | true => rw [if_pos rfl]; exact hMp i q1 hb
                  | false =>
                    rw [if_neg (by decide)]
                    refine hM84 i q1 q2 ?_
                    rw [hst, nd_bit, hb] at q3
                    simpa using q3
                | succ j ihp =>
                  intro p M e hMi hM84 hMp
                  refine x_iload C dX1_settle_209 211 rfl rfl ?_
                  refine x_bip (j := 10) C dX1_settle_211 213 rfl (by decide) ?_
                  refine x_icmpgeN C dX1_settle_213 216 242 rfl (by decide) (by omega) (by omega) (fun h213 => absurd h213 (by omega)) (fun _ => ?_)
                  refine x_iload C dX1_settle_216 218 rfl rfl ?_
                  refine x_iload C dX1_settle_218 220 rfl rfl ?_
                  refine x_ishr C dX1_settle_220 221 rfl (nI_shrp _ _ (by omega) (by omega)) ?_
                  refine x_ic (j := 1) C dX1_settle_221 222 rfl ?_
                  refine x_iand C dX1_settle_222 223 rfl (nI_bit _ _) ?_
                  refine x_ic (j := 1) C dX1_settle_223 224 rfl ?_
                  refine x_icmpneN C dX1_settle_224 227 236 rfl (by decide) (by have := bit_lt (pk T t how r) p; omega) (by have := bit_lt (pk T t how r) p; omega) (fun h224 => ?_) (fun h224 => ?_)
                  · have hb : (pk T t how r).testBit p = false := by { rw [← bit_0]; have := bit_lt (pk T t how r) p; omega }
                    refine x_iinc C dX1_settle_236 239 rfl [_, _, _, _, _, _, _, _, _, _] (nI_inc _) (by decide) rfl rfl rfl ?_
                    refine x_goto C dX1_settle_239 209 (by decide) ?_
                    first
                      | exact ihp (p + 1) M (by omega) hMi hM84 (fun i q1 q2 => hMp i (by have : ¬ i = p := fun e => by { rw [e, hb] at q2; cases q2 }; omega) q2)
                      | exact ihp (p + 1) (sto M 84 p (nI r)) (by omega) (fun a q => (sto_n _ _ _ q).trans (hMi a q)) (fun i q1 q2 q3 => by { have : ¬ i = p := fun e => by { rw [e, nd_sub k3 hb] at q3; cases q3 }; rw [sto_kn _ _ _ _ this]; exact hM84 i q1 q2 q3 }) (fun i q1 q2 => by { rw [sto_at]; by_cases e : i = p; rw [if_pos ⟨rfl, e⟩]; rw [if_neg (fun q => e q.2)]; exact hMp i (by omega) q2 })
                  · have hb := (bit_1 _ _).mp h224
                    refine x_aloadr_n C dX1_settle_227 228 rfl rfl ?_
                    refine x_getr C fl_X1_70 (Or.inr ⟨_, rfl⟩) dX1_settle_228 231 rfl hC.1 (coR_fresh hC) ?_
                    refine x_iload C dX1_settle_231 233 rfl rfl ?_
                    refine x_iload C dX1_settle_233 235 rfl rfl ?_
                    refine x_iast C dX1_settle_235 236 rfl (coA_fresh hC) (coN_fresh hC) rfl (by omega) (by decide) ?_
                    refine x_iinc C dX1_settle_236 239 rfl [_, _, _, _, _, _, _, _, _, _] (nI_inc _) (by decide) rfl rfl rfl ?_
                    refine x_goto C dX1_settle_239 209 (by decide) ?_
                    first
                      | exact ihp (p + 1) M (by omega) hMi hM84 (fun i q1 q2 => hMp i (by have : ¬ i = p := fun e => by { rw [e, hb] at q2; cases q2 }; omega) q2)
                      | exact ihp (p + 1) (sto M 84 p (nI r)) (by omega) (fun a q => (sto_n _ _ _ q).trans (hMi a q)) (fun i q1 q2 q3 => by { have : ¬ i = p := fun e => by { rw [e, nd_sub k3 hb] at q3; cases q3 }; rw [sto_kn _ _ _ _ this]; exact hM84 i q1 q2 q3 }) (fun i q1 q2 => by { rw [sto_at]; by_cases e : i = p; rw [if_pos ⟨rfl, e⟩]; rw [if_neg (fun q => e q.2)]; exact hMp i (by omega) q2 })
              have hMR : CoR K S M T := CoR_84 hR hMi
              have hQ : ∀ (j q : Nat), q + j = pk T t how r → XX w κ (Zr w κ (Qp (sp_settle T (nI t) how) S I J 0)) 0 0 185 [some (.ref 0), some (.int (nI t)), some (.int how), some (.ref (ta K t)), some (.int (nI (al T t))), some (.int (nI (rn T t))), some (.int (nI (stN T t how r))), some (.int (nI r)), some (.int (nI q)), none] [] S M J1 := by
                intro j
                induction j with
                | zero =>
                  intro q e
                  have e : q = pk T t how r := e
                  subst e
                  refine x_aloadr_n C dX1_settle_185 186 rfl rfl ?_
                  refine x_aloadr_n C dX1_settle_186 187 rfl rfl ?_
                  refine x_iload C dX1_settle_187 189 rfl rfl ?_
                  refine x_iload C dX1_settle_189 191 rfl rfl ?_
                  refine x_iload C dX1_settle_191 193 rfl rfl ?_
                  refine x_iload_n C dX1_settle_193 194 rfl rfl ?_
                  refine x_callV C lk_X1_261 dX1_settle_194 197 rfl [_, _, _, _, _] [] rfl rfl hC.1 (Nat.le_of_ble_eq_true rfl) (by decide) (Nat.le_refl _) (Nat.le_refl _) (kX1_isBest hMR hI hF ht hrr (sub_lt2 hsal hal2) k1 (hbe t ht) (hpr t ht) (D := cvT T t how (rn T t - (r + 1))) (D0 := cvT T t how (rn T t - r)) (hcap _) (fun u q1 q2 => hrows (r + 1) (by omega) u q1 (nd_tr q2 hsal)) (hcap _ _) (hrows r (by omega) _ s1 hsal)) ?_
                  rintro _ _ _ _ ⟨rfl, rfl, rfl, rfl⟩
                  rw [pk_bB hI ht (hbe t ht) (hpr t ht) hrr hsal s2, hpk]
                  refine x_ifneZ C dX1_settle_197 200 206 rfl (by decide) (fun _ => ?_) (fun h197 => absurd h197 (by decide))
                  refine x_ic (j := 0) C dX1_settle_206 207 rfl ?_
                  refine x_istore C dX1_settle_207 209 rfl [_, _, _, _, _, _, _, _, _, _] (by decide) rfl rfl ?_
                  exact hFr 10 0 M rfl hMi hM84 (fun i q => absurd q (Nat.not_lt_zero _))
                | succ j ihq =>
                  intro q e
                  have hmin := pk_min (T := T) (t := t) (how := how) (r := r) (s := stN T t how r) (show q < pk T t how r by omega)
                  refine x_aloadr_n C dX1_settle_185 186 rfl rfl ?_
                  refine x_aloadr_n C dX1_settle_186 187 rfl rfl ?_
                  refine x_iload C dX1_settle_187 189 rfl rfl ?_
                  refine x_iload C dX1_settle_189 191 rfl rfl ?_
                  refine x_iload C dX1_settle_191 193 rfl rfl ?_
                  refine x_iload_n C dX1_settle_193 194 rfl rfl ?_
                  refine x_callV C lk_X1_261 dX1_settle_194 197 rfl [_, _, _, _, _] [] rfl rfl hC.1 (Nat.le_of_ble_eq_true rfl) (by decide) (Nat.le_refl _) (Nat.le_refl _) (kX1_isBest hMR hI hF ht hrr (sub_lt2 hsal hal2) (show q < 1024 by omega) (hbe t ht) (hpr t ht) (D := cvT T t how (rn T t - (r + 1))) (D0 := cvT T t how (rn T t - r)) (hcap _) (fun u q1 q2 => hrows (r + 1) (by omega) u q1 (nd_tr q2 hsal)) (hcap _ _) (hrows r (by omega) _ s1 hsal)) ?_
                  rintro _ _ _ _ ⟨rfl, rfl, rfl, rfl⟩
                  rw [pk_bB hI ht (hbe t ht) (hpr t ht) hrr hsal s2, hmin]
                  refine x_ifneZ C dX1_settle_197 200 206 rfl (by decide) (fun h197 => absurd h197 (by decide)) (fun _ => ?_)
                  refine x_iinc C dX1_settle_200 203 rfl [_, _, _, _, _, _, _, _, _, _] (nI_inc _) (by decide) rfl rfl rfl ?_
                  refine x_goto C dX1_settle_203 185 (by decide) ?_
                  exact ihq (q + 1) (by omega)
              refine x_iload C dX1_settle_175 177 rfl rfl ?_
              refine x_iload C dX1_settle_177 179 rfl rfl ?_
              refine x_icmpgeN C dX1_settle_179 182 255 rfl (by decide) (by omega) (by omega) (fun h179 => absurd h179 (by omega)) (fun _ => ?_)
              refine x_ic (j := 0) C dX1_settle_182 183 rfl ?_
              refine x_istore C dX1_settle_183 185 rfl [_, _, _, _, _, _, _, _, _, _] (by decide) rfl rfl ?_
              exact hQ (pk T t how r) 0 (Nat.zero_add _)
          have hcl := CV_LD hW (k := rn T t) (s := al T t) (Nat.le_refl _) haa
          refine x_aloadr_n C dX1_settle_150 151 rfl rfl ?_
          refine x_getr C fl_X1_67 (Or.inr ⟨_, rfl⟩) dX1_settle_151 154 rfl hC.1 (coR_worths hC) ?_
          refine x_ic (j := 0) C dX1_settle_154 155 rfl ?_
          refine x_aaldr (t := 10) C dX1_settle_155 156 rfl (coA_worths hC) (by decide) (coN_worths hC) rfl (by omega) (by decide) hg.1 ?_
          refine x_iload C dX1_settle_156 158 rfl rfl ?_
          refine x_lald C dX1_settle_158 159 rfl hg.2.1 hg.2.2 rfl (by omega) (by decide) (hrows 0 (Nat.zero_le _) _ hal haa) ?_
          refine x_ldc2 C dX1_settle_159 162 rfl q539 ?_
          refine x_lcmp C dX1_settle_162 163 rfl ?_
          refine x_ifltC C dX1_settle_163 166 168 rfl (by decide) (fun h163 => ?_) (fun h163 => ?_)
          · have hfin : ¬ LDI T t how (rn T t) (al T t) = FARn := by { have e := (far_lt (by have := hcap (rn T t - 0) (al T t); omega)).mp h163; intro z; rcases hcl with q | q; exact absurd e (by show ¬ CV _ _ _ (rn T t) _ < _; rw [q.2]; exact Nat.lt_irrefl _); exact q.1 z }
            refine x_iload C dX1_settle_168 170 rfl rfl ?_
            refine x_istore C dX1_settle_170 172 rfl [_, _, _, _, _, _, _, _, _, _] (by decide) rfl rfl ?_
            refine x_ic (j := 0) C dX1_settle_172 173 rfl ?_
            refine x_istore C dX1_settle_173 175 rfl [_, _, _, _, _, _, _, _, _, _] (by decide) rfl rfl ?_
            exact hD hfin (rn T t) 0 I (Nat.zero_add _) (fun _ _ => rfl) (fun p _ q1 q2 => by rw [show stN T t how 0 = al T t from rfl, q1] at q2; cases q2)
          · have hno : LDI T t how (rn T t) (al T t) = FARn := by { rcases hcl with q | q; exact q.1; exact absurd ((far_lt (by have := hcap (rn T t) (al T t); omega)).mpr q.2.1) h163 }
            refine x_icm C dX1_settle_166 167 rfl ?_
            exact x_iret C dX1_settle_167 (Nat.le_refl _) (Nat.le_refl _) (Qp_a (by rw [hsp, if_pos hno]; rfl) hR fz_rfl fzS_rfl hf (Nat.le_add_right _ _))
        have hB : ∀ (i : Nat) (J1 : Ml), i ≤ rn T t → (∀ r, i ≤ r → r ≤ rn T t → ∀ u, u < 1024 → nd u (al T t) = 0 → J1 (73 + r) u = nL (cvT T t how (rn T t - r) u)) → fzJ J J1 → XX w κ (Zr w κ (Qp (sp_settle T (nI t) how) S I J 0)) 0 0 92 [some (.ref 0), some (.int (nI t)), some (.int how), some (.ref (ta K t)), some (.int (nI (al T t))), some (.int (nI (rn T t))), some (.int (nI i - nI 1)), none, none, none] [] S I J1 := by
          intro i
          induction i with
          | zero =>
            intro J1 hi hrows hf
            refine x_iload C dX1_settle_92 94 rfl rfl ?_
            refine x_iflt C dX1_settle_94 97 150 rfl (by decide) (fun _ => ?_) (fun h94 => absurd h94 (not_not_intro (by decide)))
            refine x_ls [some _, some _, some _, some _, some _, some _, none, none, none, none] ⟨rfl, rfl, rfl, rfl, rfl, rfl, trivial⟩ ?_
            exact h150 J1 (fun r q => hrows r (Nat.zero_le _) q) hf
          | succ i ih =>
            intro J1 hi hrows hf
            rw [show nI (i + 1) - nI 1 = nI i from pk_sub (by omega)]
            have hg := hC.2.2.2.2.1 i (by omega)
            have hC2 : ∀ (j s : Nat) (J1 : Ml), s + j = 1024 → (∀ r, i + 1 ≤ r → r ≤ rn T t → ∀ u, u < 1024 → nd u (al T t) = 0 → J1 (73 + r) u = nL (cvT T t how (rn T t - r) u)) → (∀ u, u < s → nd u (al T t) = 0 → J1 (73 + i) u = nL (cvT T t how (rn T t - i) u)) → fzJ J J1 → XX w κ (Zr w κ (Qp (sp_settle T (nI t) how) S I J 0)) 0 0 100 [some (.ref 0), some (.int (nI t)), some (.int how), some (.ref (ta K t)), some (.int (nI (al T t))), some (.int (nI (rn T t))), some (.int (nI i)), some (.int (nI s)), none, none] [] S I J1 := by
              intro j
              induction j with
              | zero =>
                intro s J1 e hrows hrow hf
                have e : s = 1024 := e
                subst e
                refine x_iload C dX1_settle_100 102 rfl rfl ?_
                refine x_sip (j := 1024) C dX1_settle_102 105 rfl (by decide) ?_
                refine x_icmpgeN C dX1_settle_105 108 144 rfl (by decide) (by omega) (by omega) (fun _ => ?_) (fun h105 => absurd h105 (by decide))
                refine x_iinc C dX1_settle_144 147 rfl [_, _, _, _, _, _, _, _, _, _] (nI_dec _) (by decide) rfl rfl rfl ?_
                refine x_goto C dX1_settle_147 92 (by decide) ?_
                refine x_ls [some _, some _, some _, some _, some _, some _, some _, none, none, none] ⟨rfl, rfl, rfl, rfl, rfl, rfl, rfl, trivial⟩ ?_
                refine ih J1 (by omega) (fun r q1 q2 => ?_) hf
                by_cases e : r = i
                · subst e
                  exact hrow
                · exact hrows r (by omega) q2
              | succ j ihs =>
                intro s J1 e hrows hrow hf
                have hnd : nd s (al T t) < 2 ^ 10 := nd_lt (by omega)
                refine x_iload C dX1_settle_100 102 rfl rfl ?_
                refine x_sip (j := 1024) C dX1_settle_102 105 rfl (by decide) ?_
                refine x_icmpgeN C dX1_settle_105 108 144 rfl (by decide) (by omega) (by omega) (fun h105 => absurd h105 (by omega)) (fun _ => ?_)
                refine x_iload C dX1_settle_108 110 rfl rfl ?_
                refine x_iload C dX1_settle_110 112 rfl rfl ?_
                refine x_icm C dX1_settle_112 113 rfl ?_
                refine x_ixor C dX1_settle_113 114 rfl rfl ?_
                refine x_iand C dX1_settle_114 115 rfl (nI_nd _ _) ?_
                refine x_ifneN C dX1_settle_115 118 138 rfl (by decide) (by omega) (fun h115 => ?_) (fun h115 => ?_)
                · have hN : ∀ u, u < s + 1 → nd u (al T t) = 0 → J1 (73 + i) u = nL (cvT T t how (rn T t - i) u) := fun u q1 q2 => hrow u (by have : ¬ u = s := fun e => h115 (e ▸ q2); omega) q2
                  refine x_iinc C dX1_settle_138 141 rfl [_, _, _, _, _, _, _, _, _, _] (nI_inc _) (by decide) rfl rfl rfl ?_
                  refine x_goto C dX1_settle_141 100 (by decide) ?_
                  exact ihs (s + 1) _ (by omega) hrows hN hf
                · have hval : fA (gS (fun q => mbB T (10 * t + i) q (pn T)) (cpN T t how i) (cvT T t how (rn T t - (i + 1))) s) s (cvT T t how (rn T t - (i + 1)) s) 10 = cvT T t how (rn T t - i) s := by
                    unfold cvT
                    rw [show rn T t - i = rn T t - (i + 1) + 1 by omega, CV, show rn T t - (rn T t - (i + 1) + 1) = i by omega]
                  refine x_aloadr_n C dX1_settle_118 119 rfl rfl ?_
                  refine x_getr C fl_X1_67 (Or.inr ⟨_, rfl⟩) dX1_settle_119 122 rfl hC.1 (coR_worths hC) ?_
                  refine x_iload C dX1_settle_122 124 rfl rfl ?_
                  refine x_aaldr (t := 10) C dX1_settle_124 125 rfl (coA_worths hC) (by decide) (coN_worths hC) rfl (by omega) (by decide) hg.1 ?_
                  refine x_iload C dX1_settle_125 127 rfl rfl ?_
                  refine x_aloadr_n C dX1_settle_127 128 rfl rfl ?_
                  refine x_aloadr_n C dX1_settle_128 129 rfl rfl ?_
                  refine x_iload C dX1_settle_129 131 rfl rfl ?_
                  refine x_iload C dX1_settle_131 133 rfl rfl ?_
                  refine x_iload_n C dX1_settle_133 134 rfl rfl ?_
                  refine x_callV C lk_X1_258 dX1_settle_134 137 rfl [_, _, _, _] [_, _] rfl rfl hC.1 (Nat.le_of_ble_eq_true rfl) (by decide) (Nat.le_refl _) (Nat.le_refl _) (kX1_best hR hI hF ht (show i < rn T t by omega) (sub_lt2 h115 hal2) (hbe t ht) (hpr t ht) (D := cvT T t how (rn T t - (i + 1))) (hcap _) (fun u q1 q2 => hrows (i + 1) (Nat.le_refl _) (by omega) u q1 (nd_tr q2 h115))) ?_
                  rintro _ _ _ _ ⟨rfl, rfl, rfl, rfl⟩
                  rw [hval]
                  refine x_last C dX1_settle_137 138 rfl hg.2.1 hg.2.2 rfl (by omega) (by decide) ?_
                  refine x_iinc C dX1_settle_138 141 rfl [_, _, _, _, _, _, _, _, _, _] (nI_inc _) (by decide) rfl rfl rfl ?_
                  refine x_goto C dX1_settle_141 100 (by decide) ?_
                  refine ihs (s + 1) _ (by omega) (fun r q1 q2 u q3 q4 => ?_) (fun u q1 q2 => ?_) (fzJ_sto hf (by omega))
                  · rw [sto_n _ _ _ (by omega)]
                    exact hrows r q1 q2 u q3 q4
                  · rw [sto_at]
                    by_cases e : u = s
                    · rw [if_pos ⟨rfl, e⟩, e]
                    · rw [if_neg (fun q => e q.2)]
                      exact hrow u (by omega) q2
            refine x_iload C dX1_settle_92 94 rfl rfl ?_
            refine x_iflt C dX1_settle_94 97 150 rfl (by decide) (fun h94 => absurd h94 (nI_nn (by omega))) (fun _ => ?_)
            refine x_ic (j := 0) C dX1_settle_97 98 rfl ?_
            refine x_istore C dX1_settle_98 100 rfl [_, _, _, _, _, _, _, _, _, _] (by decide) rfl rfl ?_
            exact hC2 1024 0 J1 rfl hrows (fun u q => absurd q (Nat.not_lt_zero _)) hf
        have hg := hC.2.2.2.2.1 (rn T t) (by omega)
        have hA : ∀ (j s : Nat) (J1 : Ml), s + j = 1024 → (∀ u, u < s → J1 (73 + rn T t) u = nL (cvT T t how 0 u)) → fzJ J J1 → XX w κ (Zr w κ (Qp (sp_settle T (nI t) how) S I J 0)) 0 0 50 [some (.ref 0), some (.int (nI t)), some (.int how), some (.ref (ta K t)), some (.int (nI (al T t))), some (.int (nI (rn T t))), some (.int (nI s)), none, none, none] [] S I J1 := by
          intro j
          induction j with
          | zero =>
            intro s J1 e hrow hf
            have e : s = 1024 := e
            subst e
            refine x_iload C dX1_settle_50 52 rfl rfl ?_
            refine x_sip (j := 1024) C dX1_settle_52 55 rfl (by decide) ?_
            refine x_icmpgeN C dX1_settle_55 58 86 rfl (by decide) (by omega) (by omega) (fun _ => ?_) (fun h55 => absurd h55 (by decide))
            refine x_iload C dX1_settle_86 88 rfl rfl ?_
            refine x_ic (j := 1) C dX1_settle_88 89 rfl ?_
            refine x_isub C dX1_settle_89 90 rfl rfl ?_
            refine x_istore C dX1_settle_90 92 rfl [_, _, _, _, _, _, _, _, _, _] (by decide) rfl rfl ?_
            refine hB (rn T t) J1 (Nat.le_refl _) (fun r q1 q2 u q3 q4 => ?_) hf
            rw [show r = rn T t by omega, Nat.sub_self]
            exact hrow u q3
          | succ j ihs =>
            intro s J1 e hrow hf
            have hnx : ∀ v, v = nL (cvT T t how 0 s) → ∀ u, u < s + 1 → sto J1 (73 + rn T t) s v (73 + rn T t) u = nL (cvT T t how 0 u) := fun v hv u q1 => by
              rw [sto_at]
              by_cases e : u = s
              · rw [if_pos ⟨rfl, e⟩, e]
                exact hv
              · rw [if_neg (fun q => e q.2)]
                exact hrow u (by omega)
            refine x_iload C dX1_settle_50 52 rfl rfl ?_
            refine x_sip (j := 1024) C dX1_settle_52 55 rfl (by decide) ?_
            refine x_icmpgeN C dX1_settle_55 58 86 rfl (by decide) (by omega) (by omega) (fun h55 => absurd h55 (by omega)) (fun _ => ?_)
            refine x_aloadr_n C dX1_settle_58 59 rfl rfl ?_
            refine x_getr C fl_X1_67 (Or.inr ⟨_, rfl⟩) dX1_settle_59 62 rfl hC.1 (coR_worths hC) ?_
            refine x_iload C dX1_settle_62 64 rfl rfl ?_
            refine x_aaldr (t := 10) C dX1_settle_64 65 rfl (coA_worths hC) (by decide) (coN_worths hC) rfl (by omega) (by decide) hg.1 ?_
            refine x_iload C dX1_settle_65 67 rfl rfl ?_
            refine x_iload C dX1_settle_67 69 rfl rfl ?_
            refine x_ifneN C dX1_settle_69 72 76 rfl (by decide) (by omega) (fun h69 => ?_) (fun h69 => ?_)
            · refine x_ldc2 C dX1_settle_76 79 rfl q539 ?_
              refine x_last C dX1_settle_79 80 rfl hg.2.1 hg.2.2 rfl (by omega) (by decide) ?_
              refine x_iinc C dX1_settle_80 83 rfl [_, _, _, _, _, _, _, _, _, _] (nI_inc _) (by decide) rfl rfl rfl ?_
              refine x_goto C dX1_settle_83 50 (by decide) ?_
              first
                | exact ihs (s + 1) _ (by omega) (hnx _ (by unfold cvT; rw [CV_0, if_pos h69]; rfl)) (fzJ_sto hf (by omega))
                | exact ihs (s + 1) _ (by omega) (hnx _ (by unfold cvT; rw [CV_0, if_neg h69]; rfl)) (fzJ_sto hf (by omega))
            · refine x_lc (v := 0) C dX1_settle_72 73 rfl rfl ?_
              refine x_goto C dX1_settle_73 79 (by decide) ?_
              refine x_last C dX1_settle_79 80 rfl hg.2.1 hg.2.2 rfl (by omega) (by decide) ?_
              refine x_iinc C dX1_settle_80 83 rfl [_, _, _, _, _, _, _, _, _, _] (nI_inc _) (by decide) rfl rfl rfl ?_
              refine x_goto C dX1_settle_83 50 (by decide) ?_
              first
                | exact ihs (s + 1) _ (by omega) (hnx _ (by unfold cvT; rw [CV_0, if_pos h69]; rfl)) (fzJ_sto hf (by omega))
                | exact ihs (s + 1) _ (by omega) (hnx _ (by unfold cvT; rw [CV_0, if_neg h69]; rfl)) (fzJ_sto hf (by omega))
        refine x_aloadr_n C dX1_settle_27 28 rfl rfl ?_
        refine x_getr C fl_X1_17 (Or.inr ⟨_, rfl⟩) dX1_settle_28 31 rfl hC.1 (coR_towns hC) ?_
        refine x_iload_n C dX1_settle_31 32 rfl rfl ?_
        refine x_aaldr (t := 5) C dX1_settle_32 33 rfl (coA_towns hC) (by decide) (coN_towns hC) rfl (by omega) (by decide) (ct_elt hR ht) ?_
        refine x_astorer_n C dX1_settle_33 34 rfl [_, _, _, _, _, _, _, _, _, _] (by decide) rfl rfl ?_
        refine x_aloadr_n C dX1_settle_34 35 rfl rfl ?_
        refine x_iload_n C dX1_settle_35 36 rfl rfl ?_
        refine x_callV C lk_X1_255 dX1_settle_36 39 rfl [_] [] rfl rfl hC.1 (Nat.le_of_ble_eq_true rfl) (by decide) (Nat.le_refl _) (Nat.le_refl _) (kX1_there hR hI (by omega)) ?_
        rintro _ _ _ _ ⟨rfl, rfl, rfl, rfl⟩
        refine x_istore C dX1_settle_39 41 rfl [_, _, _, _, _, _, _, _, _, _] (by decide) rfl rfl ?_
        refine x_aloadr_n C dX1_settle_41 42 rfl rfl ?_
        refine x_geti C fl_X1_128 (Or.inl rfl) dX1_settle_42 45 rfl (ct_T hR ht) ((ct_roomMany hR ht).trans (tk_r (I := T) hI (by omega))) ?_
        refine x_istore C dX1_settle_45 47 rfl [_, _, _, _, _, _, _, _, _, _] (by decide) rfl rfl ?_
        refine x_ic (j := 0) C dX1_settle_47 48 rfl ?_
        refine x_istore C dX1_settle_48 50 rfl [_, _, _, _, _, _, _, _, _, _] (by decide) rfl rfl ?_
        exact hA 1024 0 J rfl (fun u q => absurd q (Nat.not_lt_zero _)) fzJ_rfl
      · refine x_icm C dX1_settle_25 26 rfl ?_
        exact x_iret C dX1_settle_26 (Nat.le_refl _) (Nat.le_refl _) (Qp_n hR (by simp [sp_settle, opB, no1, h5, et, h14, h22]))
end Co31
