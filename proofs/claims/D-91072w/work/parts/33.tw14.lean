/-! the twin: losses, the walk -/
theorem any_nI (x : Int32) : ∃ k, x = nI k := ⟨x.toBitVec.toNat, by apply Int32.toBitVec_inj.mp; rw [nI_bv]; simp⟩
theorem any_fn (f : Nat → Int32) : ∃ g : Nat → Nat, ∀ j, f j = nI (g j) := ⟨fun j => (f j).toBitVec.toNat, fun j => by apply Int32.toBitVec_inj.mp; rw [nI_bv]; simp⟩
theorem heldN_q {A B : Mi} (h : A 489 = B 489) (t m : Nat) : heldN A t m = heldN B t m := by unfold heldN; rw [h]
theorem si_q {A B : Mi} (h : A 490 = B 490) (n t : Nat) (r : Int32) : si A n t r = si B n t r := by unfold si; rw [h]
theorem usedN_q {A B : Mi} (h : A 490 = B 490) (n t m : Nat) : usedN A n t m = usedN B n t m := by unfold usedN; simp only [si_q h]
theorem peopN_q {A B : Mi} (h : A 490 = B 490) (t n : Nat) : peopN A t n = peopN B t n := by unfold peopN; rw [h]
def QL (I : Mi) (J : Ml) (S : Sh) (t d up dw sm : Nat) : Option Value → Sh → Mi → Ml → Prop := fun r S' I' J' => r = none ∧ S = S' ∧ lsq I' I ∧ jq J' J ∧ I' 508 (11 * hd0 I t + us0 I t) = nI (Lo (feI I t) up dw sm d (hd0 I t) (us0 I t)) ∧ I' 473 62 = nI (gaN (feI I t) up dw sm (hd0 I t) (us0 I t) d)
theorem dm11 {h u : Nat} (hu : u < 11) : (11 * h + u) / 11 = h ∧ (11 * h + u) % 11 = u := by omega
section Tw14
variable {w : Wd} {l : Launch} {S : Sh} {I : Mi} {J : Ml}
theorem kX3_losses (hS : twS S) (hI : Tok I) {t d up dw sm : Nat} (ht : t < 6) (hT : TxOk I t) (hd : d ≤ 30) (hup : up ≤ 3) (hdw : dw ≤ 3) (hsm : sm ≤ 1000) : Ct w l yX3_losses cX3_losses 16 none 29 0 0 [.ref 473, .int (nI t), .int (nI d), .int (nI up), .int (nI dw), .int (nI sm)] S I J (QL I J S t d up dw sm) := by
  have hp10 := tk_p2 hI
  have hr10 := tk_r2 hI ht
  have hh0 : hd0 I t ≤ 10 := Nat.le_trans (cnt_le _ _) hr10
  have hu0 : us0 I t ≤ 10 := Nat.le_trans (cnt_le _ _) hr10
  generalize hHd : hd0 I t = h0 at *
  generalize hUs : us0 I t = u0 at *
  have hfe : ∀ e h u, tol (rulesOf I t) (nI 0) (stL I t e h u) = nI (feI I t e h u) ∧ feI I t e h u ≤ 100 := fun e h u => tol_ok _ _ _
  generalize hfe0 : feI I t = fe at *
  have hLo : ∀ e h u, h ≤ 10 → u ≤ 10 → Lo fe up dw sm e h u ≤ 10000 := fun e h u => Lo_le hsm e h u
  refine Ct.of [some _, some _, some _, some _, some _, some _, none, none, none, none, none, none, none, none, none, none] rfl (Nat.le_of_ble_eq_true rfl) (by decide) ?_
  intro κ hκ C
  subst hκ
  have hE : ∀ (j e : Nat) (M : Mi) (J1 : Ml) (lf gf : Nat → Nat), e + j = d → IvM I t M lf gf (gaN fe up dw sm h0 u0 e) → (∀ i, i < 121 → lf i = Lo fe up dw sm e (i / 11) (i % 11)) → jq J1 J → XX w κ (Zr w κ (QL I J S t d up dw sm)) 0 0 98 [some (.ref 473), some (.int (nI t)), some (.int (nI d)), some (.int (nI up)), some (.int (nI dw)), some (.int (nI sm)), some (.int (nI h0)), some (.int (nI u0)), some (.int (nI (e + 1))), none, none, none, none, none, none, none] [] S M J1 := by
    intro j
    induction j with
    | zero =>
      intro e M J1 lf gf he hM hl hj
      have he : d = e := Eq.symm he
      subst he
      refine x_iload C dX3_losses_98 100 rfl rfl ?_
      refine x_iload_n C dX3_losses_100 101 rfl rfl ?_
      refine x_icmpgtN C dX3_losses_101 104 366 rfl (by decide) (by omega) (by omega) (fun _ => ?_) (fun h101 => absurd h101 (by omega))
      exact x_vret C dX3_losses_366 (Nat.le_refl _) (Nat.le_refl _) ⟨rfl, rfl, hM.1, hj, by rw [hHd, hUs, hM.2.2.1 _ (by omega), hl _ (by omega), (dm11 (show u0 < 11 by omega)).1, (dm11 (show u0 < 11 by omega)).2, hfe0], by rw [hHd, hUs, hfe0]; exact hM.2.2.2.2⟩
    | succ j ih =>
      intro e M J1 lf gf he hM hl hj
      have hH : ∀ (j h : Nat) (M : Mi) (J1 : Ml) (lf gf : Nat → Nat), h + j = 11 → IvM I t M lf gf (if 11 * h0 + u0 < 11 * h then gaN fe up dw sm h0 u0 (e + 1) else gaN fe up dw sm h0 u0 e) → (∀ i, i < 121 → gf i = Lo fe up dw sm e (i / 11) (i % 11)) → (∀ i, i < 11 * h → lf i = Lo fe up dw sm (e + 1) (i / 11) (i % 11)) → jq J1 J → XX w κ (Zr w κ (QL I J S t d up dw sm)) 0 0 137 [some (.ref 473), some (.int (nI t)), some (.int (nI d)), some (.int (nI up)), some (.int (nI dw)), some (.int (nI sm)), some (.int (nI h0)), some (.int (nI u0)), some (.int (nI (e + 1))), some (.int (nI h)), none, none, none, none, none, none] [] S M J1 := by
        intro j
        induction j with
        | zero =>
          intro h M J1 lf gf hh hM hg hl hj
          have hh : h = 11 := hh
          subst hh
          rw [if_pos (by omega)] at hM
          refine x_iload C dX3_losses_137 139 rfl rfl ?_
          refine x_bip (j := 10) C dX3_losses_139 141 rfl (by decide) ?_
          refine x_icmpgtN C dX3_losses_141 144 360 rfl (by decide) (by omega) (by omega) (fun _ => ?_) (fun h141 => absurd h141 (by omega))
          refine x_iinc C dX3_losses_360 363 rfl [_, _, _, _, _, _, _, _, _, _, _, _, _, _, _, _] (nI_inc _) (by decide) rfl rfl rfl ?_
          refine x_goto C dX3_losses_363 98 (by decide) ?_
          refine x_ls [some _, some _, some _, some _, some _, some _, some _, some _, some _, none, none, none, none, none, none, none] ⟨rfl, rfl, rfl, rfl, rfl, rfl, rfl, rfl, rfl, trivial⟩ ?_
          exact ih (e + 1) M J1 lf gf (by omega) hM (fun i hi => hl i (by omega)) hj
        | succ j ih2 =>
          intro h M J1 lf gf hh hM hg hl hj
          have hU : ∀ (j u : Nat) (M : Mi) (J1 : Ml) (lf : Nat → Nat), u + j = 11 → IvM I t M lf gf (if 11 * h0 + u0 < 11 * h + u then gaN fe up dw sm h0 u0 (e + 1) else gaN fe up dw sm h0 u0 e) → (∀ i, i < 11 * h + u → lf i = Lo fe up dw sm (e + 1) (i / 11) (i % 11)) → jq J1 J → XX w κ (Zr w κ (QL I J S t d up dw sm)) 0 0 147 [some (.ref 473), some (.int (nI t)), some (.int (nI d)), some (.int (nI up)), some (.int (nI dw)), some (.int (nI sm)), some (.int (nI h0)), some (.int (nI u0)), some (.int (nI (e + 1))), some (.int (nI h)), some (.int (nI u)), none, none, none, none, none] [] S M J1 := by
            intro j
            induction j with
            | zero =>
              intro u M J1 lf hu hM hl hj
              have hu : u = 11 := hu
              subst hu
              refine x_iload C dX3_losses_147 149 rfl rfl ?_
              refine x_bip (j := 10) C dX3_losses_149 151 rfl (by decide) ?_
              refine x_icmpgtN C dX3_losses_151 154 354 rfl (by decide) (by omega) (by omega) (fun _ => ?_) (fun h151 => absurd h151 (by omega))
              refine x_iinc C dX3_losses_354 357 rfl [_, _, _, _, _, _, _, _, _, _, _, _, _, _, _, _] (nI_inc _) (by decide) rfl rfl rfl ?_
              refine x_goto C dX3_losses_357 137 (by decide) ?_
              refine x_ls [some _, some _, some _, some _, some _, some _, some _, some _, some _, some _, none, none, none, none, none, none] ⟨rfl, rfl, rfl, rfl, rfl, rfl, rfl, rfl, rfl, rfl, trivial⟩ ?_
              exact ih2 (h + 1) M J1 lf gf (by omega) (by rw [show 11 * (h + 1) = 11 * h + 11 by omega]; exact hM) hg (fun i hi => hl i (by omega)) hj
            | succ j ih3 =>
              intro u M J1 lf hu hM hl hj
              have e11 := dm11 (h := h) (show u < 11 by omega)
              have hR : ∀ (j r : Nat) (M : Mi) (J1 : Ml), r + j = h + 1 → IvM I t M lf gf (if h = h0 ∧ u = u0 ∧ 0 < r then (mn (loG fe (Lo fe up dw sm e) up dw (e + 1) h u) r).2 else if 11 * h0 + u0 < 11 * h + u then gaN fe up dw sm h0 u0 (e + 1) else gaN fe up dw sm h0 u0 e) → jq J1 J → (r = 0 ∨ (mn (loG fe (Lo fe up dw sm e) up dw (e + 1) h u) r).1 ≤ 10000) → XX w κ (Zr w κ (QL I J S t d up dw sm)) 0 0 187 [some (.ref 473), some (.int (nI t)), some (.int (nI d)), some (.int (nI up)), some (.int (nI dw)), some (.int (nI sm)), some (.int (nI h0)), some (.int (nI u0)), some (.int (nI (e + 1))), some (.int (nI h)), some (.int (nI u)), some (.int (nI (fe (e + 1) h u))), some (.int (nI (mn (loG fe (Lo fe up dw sm e) up dw (e + 1) h u) r).1)), some (.int (nI r)), none, none] [] S M J1 := by
                intro j
                induction j with
                | zero =>
                  intro r M J1 hr hM hj hb
                  have hr : r = h + 1 := hr
                  subst hr
                  refine x_iload C dX3_losses_187 189 rfl rfl ?_
                  refine x_iload C dX3_losses_189 191 rfl rfl ?_
                  refine x_icmpgtN C dX3_losses_191 194 333 rfl (by decide) (by omega) (by omega) (fun _ => ?_) (fun h191 => absurd h191 (by omega))
                  refine x_aloadr_n C dX3_losses_333 334 rfl rfl ?_
                  refine x_getr C fl_X3_124 (Or.inr ⟨_, rfl⟩) dX3_losses_334 337 rfl hS.1 (twR_loss hS) ?_
                  refine x_bip (j := 11) C dX3_losses_337 339 rfl (by decide) ?_
                  refine x_iload C dX3_losses_339 341 rfl rfl ?_
                  refine x_imul C dX3_losses_341 342 rfl (pk_mul _ _) ?_
                  refine x_iload C dX3_losses_342 344 rfl rfl ?_
                  refine x_iadd C dX3_losses_344 345 rfl (nI_add _ _) ?_
                  refine x_iload C dX3_losses_345 347 rfl rfl ?_
                  refine x_iast C dX3_losses_347 348 rfl (twA_loss hS) (twN_loss hS) rfl (by omega) (by decide) ?_
                  refine x_iinc C dX3_losses_348 351 rfl [_, _, _, _, _, _, _, _, _, _, _, _, _, _, _, _] (nI_inc _) (by decide) rfl rfl rfl ?_
                  refine x_goto C dX3_losses_351 147 (by decide) ?_
                  refine x_ls [some _, some _, some _, some _, some _, some _, some _, some _, some _, some _, some _, none, none, none, none, none] ⟨rfl, rfl, rfl, rfl, rfl, rfl, rfl, rfl, rfl, rfl, rfl, trivial⟩ ?_
                  refine ih3 (u + 1) _ J1 _ (by omega) (?_ : IvM I t _ (va_up lf (11 * h + u) (mn (loG fe (Lo fe up dw sm e) up dw (e + 1) h u) (h + 1)).1) gf _) (fun i hi => ?_) hj
                  · have hM2 := hM.l (j := 11 * h + u) (v := (mn (loG fe (Lo fe up dw sm e) up dw (e + 1) h u) (h + 1)).1)
                    by_cases hc : h = h0 ∧ u = u0
                    · obtain ⟨rfl, rfl⟩ := hc
                      rw [if_pos ⟨rfl, rfl, by omega⟩] at hM2
                      rw [if_pos (by omega)]
                      exact hM2
                    · rw [if_neg (fun q => hc ⟨q.1, q.2.1⟩)] at hM2
                      by_cases hc2 : 11 * h0 + u0 < 11 * h + u
                      · rw [if_pos hc2] at hM2
                        rw [if_pos (by omega)]
                        exact hM2
                      · rw [if_neg hc2] at hM2
                        rw [if_neg (by omega)]
                        exact hM2
                  · by_cases hi2 : i = 11 * h + u
                    · subst hi2
                      rw [va_up_self, e11.1, e11.2]
                      rfl
                    · rw [va_up_ne _ _ hi2]
                      exact hl i (by omega)
                | succ j ih4 =>
                  intro r M J1 hr hM hj hb
                  have hwy := wY_le (f := Lo fe up dw sm e (h - r)) (u := u) (dw := dw) (b := 10000) (fun x hx => hLo e _ x (by omega) hx) (up + dw + 1)
                  have hfee := (hfe (e + 1) h u).2
                  have hrf : r * fe (e + 1) h u ≤ 10 * 100 := Nat.mul_le_mul (by omega) hfee
                  have hbb : (mn (loG fe (Lo fe up dw sm e) up dw (e + 1) h u) r).1 ≤ 1073741824 := by
                    rcases hb with rfl | hb
                    · exact Nat.le_refl _
                    · omega
                  have hX : ∀ (j i acc : Nat), i + j = up + dw + 1 → acc = wY (Lo fe up dw sm e (h - r)) u dw i → XX w κ (Zr w κ (QL I J S t d up dw sm)) 0 0 204 [some (.ref 473), some (.int (nI t)), some (.int (nI d)), some (.int (nI up)), some (.int (nI dw)), some (.int (nI sm)), some (.int (nI h0)), some (.int (nI u0)), some (.int (nI (e + 1))), some (.int (nI h)), some (.int (nI u)), some (.int (nI (fe (e + 1) h u))), some (.int (nI (mn (loG fe (Lo fe up dw sm e) up dw (e + 1) h u) r).1)), some (.int (nI r)), some (.int (nI acc)), some (.int (nI (u + i) - nI dw))] [] S M J1 := by
                    intro j
                    induction j with
                    | zero =>
                      intro i acc hi ha
                      have hi : i = up + dw + 1 := hi
                      subst hi
                      subst ha
                      refine x_iload C dX3_losses_204 206 rfl rfl ?_
                      refine x_iload C dX3_losses_206 208 rfl rfl ?_
                      refine x_iload_n C dX3_losses_208 209 rfl rfl ?_
                      refine x_iadd C dX3_losses_209 210 rfl (nI_add _ _) ?_
                      refine x_icmpgt C dX3_losses_210 213 274 rfl (by decide) (fun _ => ?_) (fun h210 => absurd h210 (not_not_intro ((sub_lt (by omega) (by omega) (by omega)).mpr (by omega))))
                      refine x_iload C dX3_losses_274 276 rfl rfl ?_
                      refine x_iload C dX3_losses_276 278 rfl rfl ?_
                      refine x_imul C dX3_losses_278 279 rfl (pk_mul _ _) ?_
                      refine x_iload C dX3_losses_279 281 rfl rfl ?_
                      refine x_iadd C dX3_losses_281 282 rfl (nI_add _ _) ?_
                      refine x_iload C dX3_losses_282 284 rfl rfl ?_
                      refine x_icmpltN C dX3_losses_284 287 290 rfl (by decide) (by omega) (by omega) (fun h284 => ?_) (fun h284 => ?_)
                      · have hmn : mn (loG fe (Lo fe up dw sm e) up dw (e + 1) h u) (r + 1) = if r * fe (e + 1) h u + wY (Lo fe up dw sm e (h - r)) u dw (up + dw + 1) < (mn (loG fe (Lo fe up dw sm e) up dw (e + 1) h u) r).1 then (r * fe (e + 1) h u + wY (Lo fe up dw sm e (h - r)) u dw (up + dw + 1), r) else mn (loG fe (Lo fe up dw sm e) up dw (e + 1) h u) r := rfl
                        rw [if_pos h284] at hmn
                        have hb2 : r * fe (e + 1) h u + wY (Lo fe up dw sm e (h - r)) u dw (up + dw + 1) ≤ 10000 := by
                          rcases Nat.eq_zero_or_pos r with q | q
                          · have : r * fe (e + 1) h u = 0 := by rw [q, Nat.zero_mul]
                            omega
                          · have := hb.resolve_left (by omega)
                            omega
                        refine x_iload C dX3_losses_290 292 rfl rfl ?_
                        refine x_iload C dX3_losses_292 294 rfl rfl ?_
                        refine x_imul C dX3_losses_294 295 rfl (pk_mul _ _) ?_
                        refine x_iload C dX3_losses_295 297 rfl rfl ?_
                        refine x_iadd C dX3_losses_297 298 rfl (nI_add _ _) ?_
                        refine x_istore C dX3_losses_298 300 rfl [_, _, _, _, _, _, _, _, _, _, _, _, _, _, _, _] (by decide) rfl rfl ?_
                        refine x_aloadr_n C dX3_losses_300 301 rfl rfl ?_
                        refine x_iload C dX3_losses_301 303 rfl rfl ?_
                        refine x_iload C dX3_losses_303 305 rfl rfl ?_
                        refine x_icmpneN C dX3_losses_305 308 320 rfl (by decide) (by omega) (by omega) (fun h305 => ?_) (fun h305 => ?_)
                        · refine x_aloadr_n C dX3_losses_320 321 rfl rfl ?_
                          refine x_geti C fl_X3_395 (Or.inl rfl) dX3_losses_321 324 rfl hS.1 hM.2.2.2.2 ?_
                          refine x_puti C fl_X3_395 (Or.inl rfl) (Or.inl rfl) dX3_losses_324 327 rfl hS.1 ?_
                          refine x_iinc C dX3_losses_327 330 rfl [_, _, _, _, _, _, _, _, _, _, _, _, _, _, _, _] (nI_inc _) (by decide) rfl rfl rfl ?_
                          refine x_goto C dX3_losses_330 187 (by decide) ?_
                          refine x_ls [some _, some _, some _, some _, some _, some _, some _, some _, some _, some _, some _, some _, some _, some _, none, none] ⟨rfl, rfl, rfl, rfl, rfl, rfl, rfl, rfl, rfl, rfl, rfl, rfl, rfl, rfl, trivial⟩ ?_
                          have h2 := fun (M2 : Mi) (hM2 : IvM I t M2 lf gf (if h = h0 ∧ u = u0 ∧ 0 < r + 1 then (mn (loG fe (Lo fe up dw sm e) up dw (e + 1) h u) (r + 1)).2 else if 11 * h0 + u0 < 11 * h + u then gaN fe up dw sm h0 u0 (e + 1) else gaN fe up dw sm h0 u0 e)) => ih4 (r + 1) M2 J1 (by omega) hM2 hj (Or.inr (by rw [hmn]; exact hb2))
                          rw [hmn] at h2
                          refine h2 _ ?_
                          first
                            | (rw [if_pos ⟨h305, h312, by omega⟩]; exact hM.g)
                            | (simp only [h312, false_and, and_false, if_false] at hM ⊢; exact hM.g)
                            | (simp only [h305, false_and, and_false, if_false] at hM ⊢; exact hM.g)
                        · refine x_iload C dX3_losses_308 310 rfl rfl ?_
                          refine x_iload C dX3_losses_310 312 rfl rfl ?_
                          refine x_icmpneN C dX3_losses_312 315 320 rfl (by decide) (by omega) (by omega) (fun h312 => ?_) (fun h312 => ?_)
                          · refine x_aloadr_n C dX3_losses_320 321 rfl rfl ?_
                            refine x_geti C fl_X3_395 (Or.inl rfl) dX3_losses_321 324 rfl hS.1 hM.2.2.2.2 ?_
                            refine x_puti C fl_X3_395 (Or.inl rfl) (Or.inl rfl) dX3_losses_324 327 rfl hS.1 ?_
                            refine x_iinc C dX3_losses_327 330 rfl [_, _, _, _, _, _, _, _, _, _, _, _, _, _, _, _] (nI_inc _) (by decide) rfl rfl rfl ?_
                            refine x_goto C dX3_losses_330 187 (by decide) ?_
                            refine x_ls [some _, some _, some _, some _, some _, some _, some _, some _, some _, some _, some _, some _, some _, some _, none, none] ⟨rfl, rfl, rfl, rfl, rfl, rfl, rfl, rfl, rfl, rfl, rfl, rfl, rfl, rfl, trivial⟩ ?_
                            have h2 := fun (M2 : Mi) (hM2 : IvM I t M2 lf gf (if h = h0 ∧ u = u0 ∧ 0 < r + 1 then (mn (loG fe (Lo fe up dw sm e) up dw (e + 1) h u) (r + 1)).2 else if 11 * h0 + u0 < 11 * h + u then gaN fe up dw sm h0 u0 (e + 1) else gaN fe up dw sm h0 u0 e)) => ih4 (r + 1) M2 J1 (by omega) hM2 hj (Or.inr (by rw [hmn]; exact hb2))
                            rw [hmn] at h2
                            refine h2 _ ?_
                            first
                              | (rw [if_pos ⟨h305, h312, by omega⟩]; exact hM.g)
                              | (simp only [h312, false_and, and_false, if_false] at hM ⊢; exact hM.g)
                              | (simp only [h305, false_and, and_false, if_false] at hM ⊢; exact hM.g)
                          · refine x_iload C dX3_losses_315 317 rfl rfl ?_
                            refine x_goto C dX3_losses_317 324 (by decide) ?_
                            refine x_puti C fl_X3_395 (Or.inl rfl) (Or.inl rfl) dX3_losses_324 327 rfl hS.1 ?_
                            refine x_iinc C dX3_losses_327 330 rfl [_, _, _, _, _, _, _, _, _, _, _, _, _, _, _, _] (nI_inc _) (by decide) rfl rfl rfl ?_
                            refine x_goto C dX3_losses_330 187 (by decide) ?_
                            refine x_ls [some _, some _, some _, some _, some _, some _, some _, some _, some _, some _, some _, some _, some _, some _, none, none] ⟨rfl, rfl, rfl, rfl, rfl, rfl, rfl, rfl, rfl, rfl, rfl, rfl, rfl, rfl, trivial⟩ ?_
                            have h2 := fun (M2 : Mi) (hM2 : IvM I t M2 lf gf (if h = h0 ∧ u = u0 ∧ 0 < r + 1 then (mn (loG fe (Lo fe up dw sm e) up dw (e + 1) h u) (r + 1)).2 else if 11 * h0 + u0 < 11 * h + u then gaN fe up dw sm h0 u0 (e + 1) else gaN fe up dw sm h0 u0 e)) => ih4 (r + 1) M2 J1 (by omega) hM2 hj (Or.inr (by rw [hmn]; exact hb2))
                            rw [hmn] at h2
                            refine h2 _ ?_
                            first
                              | (rw [if_pos ⟨h305, h312, by omega⟩]; exact hM.g)
                              | (simp only [h312, false_and, and_false, if_false] at hM ⊢; exact hM.g)
                              | (simp only [h305, false_and, and_false, if_false] at hM ⊢; exact hM.g)
                      · refine x_goto C dX3_losses_287 327 (by decide) ?_
                        refine x_iinc C dX3_losses_327 330 rfl [_, _, _, _, _, _, _, _, _, _, _, _, _, _, _, _] (nI_inc _) (by decide) rfl rfl rfl ?_
                        refine x_goto C dX3_losses_330 187 (by decide) ?_
                        refine x_ls [some _, some _, some _, some _, some _, some _, some _, some _, some _, some _, some _, some _, some _, some _, none, none] ⟨rfl, rfl, rfl, rfl, rfl, rfl, rfl, rfl, rfl, rfl, rfl, rfl, rfl, rfl, trivial⟩ ?_
                        have hmn : mn (loG fe (Lo fe up dw sm e) up dw (e + 1) h u) (r + 1) = if r * fe (e + 1) h u + wY (Lo fe up dw sm e (h - r)) u dw (up + dw + 1) < (mn (loG fe (Lo fe up dw sm e) up dw (e + 1) h u) r).1 then (r * fe (e + 1) h u + wY (Lo fe up dw sm e (h - r)) u dw (up + dw + 1), r) else mn (loG fe (Lo fe up dw sm e) up dw (e + 1) h u) r := rfl
                        rw [if_neg h284] at hmn
                        have hr0 : ¬ r = 0 := by
                          intro q
                          subst q
                          have : (mn (loG fe (Lo fe up dw sm e) up dw (e + 1) h u) 0).1 = 1073741824 := rfl
                          rw [this] at h284
                          omega
                        have h2 := ih4 (r + 1) M J1 (by omega) (by
                          rw [hmn]
                          by_cases hc : h = h0 ∧ u = u0
                          · rw [if_pos ⟨hc.1, hc.2, by omega⟩]; rw [if_pos ⟨hc.1, hc.2, by omega⟩] at hM; exact hM
                          · rw [if_neg (fun q => hc ⟨q.1, q.2.1⟩)]; rw [if_neg (fun q => hc ⟨q.1, q.2.1⟩)] at hM; exact hM) hj (Or.inr (by rw [hmn]; exact hb.resolve_left hr0))
                        rw [hmn] at h2
                        exact h2
                    | succ j ih5 =>
                      intro i acc hi ha
                      refine x_iload C dX3_losses_204 206 rfl rfl ?_
                      refine x_iload C dX3_losses_206 208 rfl rfl ?_
                      refine x_iload_n C dX3_losses_208 209 rfl rfl ?_
                      refine x_iadd C dX3_losses_209 210 rfl (nI_add _ _) ?_
                      refine x_icmpgt C dX3_losses_210 213 274 rfl (by decide) (fun h210 => absurd h210 (fun q => by have := (sub_lt (by omega) (by omega) (by omega)).mp q; omega)) (fun _ => ?_)
                      refine x_iload C dX3_losses_213 215 rfl rfl ?_
                      refine x_ic (j := 0) C dX3_losses_215 216 rfl ?_
                      refine x_bip (j := 10) C dX3_losses_216 218 rfl (by decide) ?_
                      refine x_callS C lk_X3_160 dX3_losses_218 221 rfl [_, _, _] [] rfl rfl (Nat.le_of_ble_eq_true rfl) (by decide) (Nat.le_refl _) (Nat.le_refl _) kX3_in ?_
                      rintro _ _ _ _ ⟨rfl, rfl, rfl, rfl⟩
                      refine x_ifeqZ C dX3_losses_221 224 264 rfl (by decide) (fun h221 => ?_) (fun h221 => ?_)
                      · have hn : ¬ (dw ≤ u + i ∧ u + i ≤ 10 + dw) := fun q => by rw [(in_sub (by omega) (by omega)).mpr q] at h221; cases h221
                        refine x_iload C dX3_losses_264 266 rfl rfl ?_
                        refine x_istore C dX3_losses_266 268 rfl [_, _, _, _, _, _, _, _, _, _, _, _, _, _, _, _] (by decide) rfl rfl ?_
                        refine x_iinc C dX3_losses_268 271 rfl [_, _, _, _, _, _, _, _, _, _, _, _, _, _, _, _] (show nI (u + i) - nI dw + Int32.ofInt 1 = nI (u + (i + 1)) - nI dw by rw [← Nat.add_assoc, ← nI_inc (u + i)]; simp only [Int32.sub_eq_add_neg]; ac_rfl) (by decide) rfl rfl rfl ?_
                        refine x_goto C dX3_losses_271 204 (by decide) ?_
                        exact ih5 (i + 1) _ (by omega) (by rw [wY]; first | (rw [if_neg hn]; exact ha) | (rw [if_pos hn, ← ha]; omega))
                      · have hn := (in_sub (by omega) (by omega)).mp h221
                        have ex : nI (u + i) - nI dw = nI (u + i - dw) := pk_sub (by omega)
                        have eidx : 11 * (h - r) + (u + i - dw) < 121 := by omega
                        have e12 := dm11 (h := h - r) (show u + i - dw < 11 by omega)
                        have hlat : M 509 (11 * (h - r) + (u + i - dw)) = nI (Lo fe up dw sm e (h - r) (u + i - dw)) := by rw [hM.2.2.2.1 _ eidx, hg _ eidx, e12.1, e12.2]
                        have hLb := hLo e (h - r) (u + i - dw) (by omega) (by omega)
                        have hwi := wY_le (f := Lo fe up dw sm e (h - r)) (u := u) (dw := dw) (b := 10000) (fun x hx => hLo e _ x (by omega) hx) i
                        rw [← ha] at hwi
                        refine x_aloadr_n C dX3_losses_224 225 rfl rfl ?_
                        refine x_getr C fl_X3_127 (Or.inr ⟨_, rfl⟩) dX3_losses_225 228 rfl hS.1 (twR_later hS) ?_
                        refine x_bip (j := 11) C dX3_losses_228 230 rfl (by decide) ?_
                        refine x_iload C dX3_losses_230 232 rfl rfl ?_
                        refine x_iload C dX3_losses_232 234 rfl rfl ?_
                        refine x_isub C dX3_losses_234 235 rfl (pk_sub (by omega)) ?_
                        refine x_imul C dX3_losses_235 236 rfl (pk_mul _ _) ?_
                        refine x_iload C dX3_losses_236 238 rfl rfl ?_
                        refine x_iadd C dX3_losses_238 239 rfl (show nI (11 * (h - r)) + (nI (u + i) - nI dw) = nI (11 * (h - r) + (u + i - dw)) by rw [ex]; exact nI_add _ _) ?_
                        refine x_iald C dX3_losses_239 240 rfl (twA_later hS) (twN_later hS) rfl (by omega) (by decide) hlat ?_
                        refine x_iload C dX3_losses_240 242 rfl rfl ?_
                        refine x_icmpleN C dX3_losses_242 245 264 rfl (by decide) (by omega) (by omega) (fun h242 => ?_) (fun h242 => ?_)
                        · refine x_iload C dX3_losses_264 266 rfl rfl ?_
                          refine x_istore C dX3_losses_266 268 rfl [_, _, _, _, _, _, _, _, _, _, _, _, _, _, _, _] (by decide) rfl rfl ?_
                          refine x_iinc C dX3_losses_268 271 rfl [_, _, _, _, _, _, _, _, _, _, _, _, _, _, _, _] (show nI (u + i) - nI dw + Int32.ofInt 1 = nI (u + (i + 1)) - nI dw by rw [← Nat.add_assoc, ← nI_inc (u + i)]; simp only [Int32.sub_eq_add_neg]; ac_rfl) (by decide) rfl rfl rfl ?_
                          refine x_goto C dX3_losses_271 204 (by decide) ?_
                          exact ih5 (i + 1) _ (by omega) (by rw [wY]; first | (rw [if_neg hn]; exact ha) | (rw [if_pos hn, ← ha]; omega))
                        · refine x_aloadr_n C dX3_losses_245 246 rfl rfl ?_
                          refine x_getr C fl_X3_127 (Or.inr ⟨_, rfl⟩) dX3_losses_246 249 rfl hS.1 (twR_later hS) ?_
                          refine x_bip (j := 11) C dX3_losses_249 251 rfl (by decide) ?_
                          refine x_iload C dX3_losses_251 253 rfl rfl ?_
                          refine x_iload C dX3_losses_253 255 rfl rfl ?_
                          refine x_isub C dX3_losses_255 256 rfl (pk_sub (by omega)) ?_
                          refine x_imul C dX3_losses_256 257 rfl (pk_mul _ _) ?_
                          refine x_iload C dX3_losses_257 259 rfl rfl ?_
                          refine x_iadd C dX3_losses_259 260 rfl (show nI (11 * (h - r)) + (nI (u + i) - nI dw) = nI (11 * (h - r) + (u + i - dw)) by rw [ex]; exact nI_add _ _) ?_
                          refine x_iald C dX3_losses_260 261 rfl (twA_later hS) (twN_later hS) rfl (by omega) (by decide) hlat ?_
                          refine x_goto C dX3_losses_261 266 (by decide) ?_
                          refine x_istore C dX3_losses_266 268 rfl [_, _, _, _, _, _, _, _, _, _, _, _, _, _, _, _] (by decide) rfl rfl ?_
                          refine x_iinc C dX3_losses_268 271 rfl [_, _, _, _, _, _, _, _, _, _, _, _, _, _, _, _] (show nI (u + i) - nI dw + Int32.ofInt 1 = nI (u + (i + 1)) - nI dw by rw [← Nat.add_assoc, ← nI_inc (u + i)]; simp only [Int32.sub_eq_add_neg]; ac_rfl) (by decide) rfl rfl rfl ?_
                          refine x_goto C dX3_losses_271 204 (by decide) ?_
                          exact ih5 (i + 1) _ (by omega) (by rw [wY]; first | (rw [if_neg hn]; exact ha) | (rw [if_pos hn, ← ha]; omega))
                  refine x_iload C dX3_losses_187 189 rfl rfl ?_
                  refine x_iload C dX3_losses_189 191 rfl rfl ?_
                  refine x_icmpgtN C dX3_losses_191 194 333 rfl (by decide) (by omega) (by omega) (fun h191 => absurd h191 (by omega)) (fun _ => ?_)
                  refine x_ic (j := 0) C dX3_losses_194 195 rfl ?_
                  refine x_istore C dX3_losses_195 197 rfl [_, _, _, _, _, _, _, _, _, _, _, _, _, _, _, _] (by decide) rfl rfl ?_
                  refine x_iload C dX3_losses_197 199 rfl rfl ?_
                  refine x_iload C dX3_losses_199 201 rfl rfl ?_
                  refine x_isub C dX3_losses_201 202 rfl rfl ?_
                  refine x_istore C dX3_losses_202 204 rfl [_, _, _, _, _, _, _, _, _, _, _, _, _, _, _, _] (by decide) rfl rfl ?_
                  exact hX (up + dw + 1) 0 0 (Nat.zero_add _) rfl
              have hM3 := ((hM.s (i := 54) (by omega) (nI (e + 1))).s (i := 55) (by omega) (nI h)).s (i := 56) (by omega) (nI u)
              have h504 := hM3.1.row (b := 504) (by decide) (by decide) (by decide) (by decide)
              have h505 := hM3.1.row (b := 505) (by decide) (by decide) (by decide) (by decide)
              have hTq := TxOk_q h504 h505 t
              have hsg : sg (sto (sto (sto M 473 54 (nI (e + 1))) 473 55 (nI h)) 473 56 (nI u)) = stL I t (e + 1) h u := by
                funext k
                match k with
                | 0 => rfl
                | 1 => rfl
                | 2 => rfl
                | 3 => exact hM.2.1
                | k + 4 => exact hM.1 473 16 (by decide) (by decide) (by decide) (by omega)
              refine x_iload C dX3_losses_147 149 rfl rfl ?_
              refine x_bip (j := 10) C dX3_losses_149 151 rfl (by decide) ?_
              refine x_icmpgtN C dX3_losses_151 154 354 rfl (by decide) (by omega) (by omega) (fun h151 => absurd h151 (by omega)) (fun _ => ?_)
              refine x_aloadr_n C dX3_losses_154 155 rfl rfl ?_
              refine x_iload C dX3_losses_155 157 rfl rfl ?_
              refine x_puti C fl_X3_322 (Or.inl rfl) (Or.inl rfl) dX3_losses_157 160 rfl hS.1 ?_
              refine x_aloadr_n C dX3_losses_160 161 rfl rfl ?_
              refine x_iload C dX3_losses_161 163 rfl rfl ?_
              refine x_puti C fl_X3_327 (Or.inl rfl) (Or.inl rfl) dX3_losses_163 166 rfl hS.1 ?_
              refine x_aloadr_n C dX3_losses_166 167 rfl rfl ?_
              refine x_iload C dX3_losses_167 169 rfl rfl ?_
              refine x_puti C fl_X3_332 (Or.inl rfl) (Or.inl rfl) dX3_losses_169 172 rfl hS.1 ?_
              refine x_aloadr_n C dX3_losses_172 173 rfl rfl ?_
              refine x_iload_n C dX3_losses_173 174 rfl rfl ?_
              refine x_ic (j := 0) C dX3_losses_174 175 rfl ?_
              refine x_callV C lk_X3_384 dX3_losses_175 178 rfl [_, _] [] rfl rfl hS.1 (Nat.le_of_ble_eq_true rfl) (by decide) (Nat.le_refl _) (Nat.le_refl _) (kX3_told hS ht (hTq.1.mpr hT)) ?_
              rintro _ _ M4 J4 ⟨rfl, rfl, hf4, hj4⟩
              rw [hTq.2, hsg, (hfe _ _ _).1]
              refine x_istore C dX3_losses_178 180 rfl [_, _, _, _, _, _, _, _, _, _, _, _, _, _, _, _] (by decide) rfl rfl ?_
              refine x_ldcN (j := 1073741824) C dX3_losses_180 182 rfl q1560 (by decide) ?_
              refine x_istore C dX3_losses_182 184 rfl [_, _, _, _, _, _, _, _, _, _, _, _, _, _, _, _] (by decide) rfl rfl ?_
              refine x_ic (j := 0) C dX3_losses_184 185 rfl ?_
              refine x_istore C dX3_losses_185 187 rfl [_, _, _, _, _, _, _, _, _, _, _, _, _, _, _, _] (by decide) rfl rfl ?_
              exact hR (h + 1) 0 M4 J4 (Nat.zero_add _) (by rw [if_neg (by omega)]; exact hM3.td hf4) (jq_trans hj4 hj) (Or.inl rfl)
          refine x_iload C dX3_losses_137 139 rfl rfl ?_
          refine x_bip (j := 10) C dX3_losses_139 141 rfl (by decide) ?_
          refine x_icmpgtN C dX3_losses_141 144 360 rfl (by decide) (by omega) (by omega) (fun h141 => absurd h141 (by omega)) (fun _ => ?_)
          refine x_ic (j := 0) C dX3_losses_144 145 rfl ?_
          refine x_istore C dX3_losses_145 147 rfl [_, _, _, _, _, _, _, _, _, _, _, _, _, _, _, _] (by decide) rfl rfl ?_
          exact hU 11 0 M J1 lf (Nat.zero_add _) hM hl hj
      have hC : ∀ (j k : Nat) (M : Mi) (gf : Nat → Nat), k + j = 121 → IvM I t M lf gf (gaN fe up dw sm h0 u0 e) → (∀ i, i < k → gf i = lf i) → XX w κ (Zr w κ (QL I J S t d up dw sm)) 0 0 107 [some (.ref 473), some (.int (nI t)), some (.int (nI d)), some (.int (nI up)), some (.int (nI dw)), some (.int (nI sm)), some (.int (nI h0)), some (.int (nI u0)), some (.int (nI (e + 1))), some (.int (nI k)), none, none, none, none, none, none] [] S M J1 := by
        intro j
        induction j with
        | zero =>
          intro k M gf hk hM hg
          have hk : k = 121 := hk
          subst hk
          refine x_iload C dX3_losses_107 109 rfl rfl ?_
          refine x_bip (j := 121) C dX3_losses_109 111 rfl (by decide) ?_
          refine x_icmpgeN C dX3_losses_111 114 134 rfl (by decide) (by omega) (by omega) (fun _ => ?_) (fun h111 => absurd h111 (by omega))
          refine x_ic (j := 0) C dX3_losses_134 135 rfl ?_
          refine x_istore C dX3_losses_135 137 rfl [_, _, _, _, _, _, _, _, _, _, _, _, _, _, _, _] (by decide) rfl rfl ?_
          exact hH 11 0 M J1 lf gf (Nat.zero_add _) (by rw [if_neg (by omega)]; exact hM) (fun i hi => (hg i hi).trans (hl i hi)) (fun i hi => by omega) hj
        | succ j ih6 =>
          intro k M gf hk hM hg
          refine x_iload C dX3_losses_107 109 rfl rfl ?_
          refine x_bip (j := 121) C dX3_losses_109 111 rfl (by decide) ?_
          refine x_icmpgeN C dX3_losses_111 114 134 rfl (by decide) (by omega) (by omega) (fun h111 => absurd h111 (by omega)) (fun _ => ?_)
          refine x_aloadr_n C dX3_losses_114 115 rfl rfl ?_
          refine x_getr C fl_X3_127 (Or.inr ⟨_, rfl⟩) dX3_losses_115 118 rfl hS.1 (twR_later hS) ?_
          refine x_iload C dX3_losses_118 120 rfl rfl ?_
          refine x_aloadr_n C dX3_losses_120 121 rfl rfl ?_
          refine x_getr C fl_X3_124 (Or.inr ⟨_, rfl⟩) dX3_losses_121 124 rfl hS.1 (twR_loss hS) ?_
          refine x_iload C dX3_losses_124 126 rfl rfl ?_
          refine x_iald C dX3_losses_126 127 rfl (twA_loss hS) (twN_loss hS) rfl (by omega) (by decide) (hM.2.2.1 _ (by omega)) ?_
          refine x_iast C dX3_losses_127 128 rfl (twA_later hS) (twN_later hS) rfl (by omega) (by decide) ?_
          refine x_iinc C dX3_losses_128 131 rfl [_, _, _, _, _, _, _, _, _, _, _, _, _, _, _, _] (nI_inc _) (by decide) rfl rfl rfl ?_
          refine x_goto C dX3_losses_131 107 (by decide) ?_
          refine ih6 (k + 1) _ _ (by omega) hM.k (fun i hi => ?_)
          by_cases h2 : i = k
          · subst h2; rw [va_up_self]
          · rw [va_up_ne _ _ h2]; exact hg i (by omega)
      refine x_iload C dX3_losses_98 100 rfl rfl ?_
      refine x_iload_n C dX3_losses_100 101 rfl rfl ?_
      refine x_icmpgtN C dX3_losses_101 104 366 rfl (by decide) (by omega) (by omega) (fun h101 => absurd h101 (by omega)) (fun _ => ?_)
      refine x_ic (j := 0) C dX3_losses_104 105 rfl ?_
      refine x_istore C dX3_losses_105 107 rfl [_, _, _, _, _, _, _, _, _, _, _, _, _, _, _, _] (by decide) rfl rfl ?_
      exact hC 121 0 M gf (Nat.zero_add _) hM (fun i hi => by omega)
  have hA : ∀ (j k : Nat) (M : Mi) (lf gf : Nat → Nat) (gv : Nat), k + j = 121 → IvM I t M lf gf gv → (∀ i, i < k → lf i = Lo fe up dw sm 0 (i / 11) (i % 11)) → XX w κ (Zr w κ (QL I J S t d up dw sm)) 0 0 12 [some (.ref 473), some (.int (nI t)), some (.int (nI d)), some (.int (nI up)), some (.int (nI dw)), some (.int (nI sm)), some (.int (nI k)), none, none, none, none, none, none, none, none, none] [] S M J := by
    intro j
    induction j with
    | zero =>
      intro k M lf gf gv hk hM hl
      have hk : k = 121 := hk
      subst hk
      have hM2 := hM.g (v := 0)
      have r485 := hM2.1.row (b := 485) (by decide) (by decide) (by decide) (by decide)
      have r489 := hM2.1.row (b := 489) (by decide) (by decide) (by decide) (by decide)
      have r490 := hM2.1.row (b := 490) (by decide) (by decide) (by decide) (by decide)
      have r1 : sto M 473 62 (nI 0) 473 1 = nI (pn I) := (hM2.1 473 1 (by decide) (by decide) (by decide) (by omega)).trans (tk_p hI)
      have r5 : sto M 473 62 (nI 0) 485 t = nI (rn I t) := (congrFun r485 t).trans (tk_r hI ht)
      refine x_iload C dX3_losses_12 14 rfl rfl ?_
      refine x_bip (j := 121) C dX3_losses_14 16 rfl (by decide) ?_
      refine x_icmpgeN C dX3_losses_16 19 76 rfl (by decide) (by omega) (by omega) (fun _ => ?_) (fun h16 => absurd h16 (by omega))
      refine x_aloadr_n C dX3_losses_76 77 rfl rfl ?_
      refine x_ic (j := 0) C dX3_losses_77 78 rfl ?_
      refine x_puti C fl_X3_395 (Or.inl rfl) (Or.inl rfl) dX3_losses_78 81 rfl hS.1 ?_
      refine x_aloadr_n C dX3_losses_81 82 rfl rfl ?_
      refine x_iload_n C dX3_losses_82 83 rfl rfl ?_
      refine x_callV C lk_X3_375 dX3_losses_83 86 rfl [_] [] rfl rfl hS.1 (Nat.le_of_ble_eq_true rfl) (by decide) (Nat.le_refl _) (Nat.le_refl _) (kX3_heldIn hS ht r5 hr10) ?_
      rintro _ _ _ _ ⟨rfl, rfl, rfl, rfl⟩
      rw [heldN_q r489, show heldN I t (rn I t) = h0 from hHd]
      refine x_istore C dX3_losses_86 88 rfl [_, _, _, _, _, _, _, _, _, _, _, _, _, _, _, _] (by decide) rfl rfl ?_
      refine x_aloadr_n C dX3_losses_88 89 rfl rfl ?_
      refine x_iload_n C dX3_losses_89 90 rfl rfl ?_
      refine x_callV C lk_X3_378 dX3_losses_90 93 rfl [_] [] rfl rfl hS.1 (Nat.le_of_ble_eq_true rfl) (by decide) (Nat.le_refl _) (Nat.le_refl _) (kX3_usedIn hS r1 hp10 ht r5 hr10) ?_
      rintro _ _ _ _ ⟨rfl, rfl, rfl, rfl⟩
      rw [usedN_q r490, show usedN I (pn I) t (rn I t) = u0 from hUs]
      refine x_istore C dX3_losses_93 95 rfl [_, _, _, _, _, _, _, _, _, _, _, _, _, _, _, _] (by decide) rfl rfl ?_
      refine x_ic (j := 1) C dX3_losses_95 96 rfl ?_
      refine x_istore C dX3_losses_96 98 rfl [_, _, _, _, _, _, _, _, _, _, _, _, _, _, _, _] (by decide) rfl rfl ?_
      exact hE d 0 _ J lf gf (Nat.zero_add _) hM2 hl (jq_refl _)
    | succ j ih7 =>
      intro k M lf gf gv hk hM hl
      have hst : ∀ v, v = Lo fe up dw sm 0 (k / 11) (k % 11) → ∀ i, i < k + 1 → va_up lf k v i = Lo fe up dw sm 0 (i / 11) (i % 11) := by
        intro v hv i hi
        by_cases h2 : i = k
        · subst h2; rw [va_up_self, hv]
        · rw [va_up_ne _ _ h2]; exact hl i (by omega)
      refine x_iload C dX3_losses_12 14 rfl rfl ?_
      refine x_bip (j := 121) C dX3_losses_14 16 rfl (by decide) ?_
      refine x_icmpgeN C dX3_losses_16 19 76 rfl (by decide) (by omega) (by omega) (fun h16 => absurd h16 (by omega)) (fun _ => ?_)
      refine x_aloadr_n C dX3_losses_19 20 rfl rfl ?_
      refine x_getr C fl_X3_124 (Or.inr ⟨_, rfl⟩) dX3_losses_20 23 rfl hS.1 (twR_loss hS) ?_
      refine x_iload C dX3_losses_23 25 rfl rfl ?_
      refine x_iload C dX3_losses_25 27 rfl rfl ?_
      refine x_bip (j := 11) C dX3_losses_27 29 rfl (by decide) ?_
      refine x_idiv C dX3_losses_29 30 rfl (by decide) (pk_div (by omega) (by omega) (by omega)) ?_
      refine x_iload C dX3_losses_30 32 rfl rfl ?_
      refine x_bip (j := 11) C dX3_losses_32 34 rfl (by decide) ?_
      refine x_irem C dX3_losses_34 35 rfl (by decide) (pk_rem (by omega) (by omega) (by omega)) ?_
      refine x_icmpleN C dX3_losses_35 38 55 rfl (by decide) (by omega) (by omega) (fun h35 => ?_) (fun h35 => ?_)
      · refine x_iload C dX3_losses_55 57 rfl rfl ?_
        refine x_iload C dX3_losses_57 59 rfl rfl ?_
        refine x_bip (j := 11) C dX3_losses_59 61 rfl (by decide) ?_
        refine x_irem C dX3_losses_61 62 rfl (by decide) (pk_rem (by omega) (by omega) (by omega)) ?_
        refine x_iload C dX3_losses_62 64 rfl rfl ?_
        refine x_bip (j := 11) C dX3_losses_64 66 rfl (by decide) ?_
        refine x_idiv C dX3_losses_66 67 rfl (by decide) (pk_div (by omega) (by omega) (by omega)) ?_
        refine x_isub C dX3_losses_67 68 rfl (pk_sub (by omega)) ?_
        refine x_imul C dX3_losses_68 69 rfl (pk_mul _ _) ?_
        refine x_iast C dX3_losses_69 70 rfl (twA_loss hS) (twN_loss hS) rfl (by omega) (by decide) ?_
        refine x_iinc C dX3_losses_70 73 rfl [_, _, _, _, _, _, _, _, _, _, _, _, _, _, _, _] (nI_inc _) (by decide) rfl rfl rfl ?_
        refine x_goto C dX3_losses_73 12 (by decide) ?_
        exact ih7 (k + 1) _ _ gf gv (by omega) hM.l (hst _ (by unfold Lo; first | rw [if_pos h35] | rw [if_neg h35]))
      · refine x_bip (j := 100) C dX3_losses_38 40 rfl (by decide) ?_
        refine x_iload C dX3_losses_40 42 rfl rfl ?_
        refine x_bip (j := 11) C dX3_losses_42 44 rfl (by decide) ?_
        refine x_idiv C dX3_losses_44 45 rfl (by decide) (pk_div (by omega) (by omega) (by omega)) ?_
        refine x_iload C dX3_losses_45 47 rfl rfl ?_
        refine x_bip (j := 11) C dX3_losses_47 49 rfl (by decide) ?_
        refine x_irem C dX3_losses_49 50 rfl (by decide) (pk_rem (by omega) (by omega) (by omega)) ?_
        refine x_isub C dX3_losses_50 51 rfl (pk_sub (by omega)) ?_
        refine x_imul C dX3_losses_51 52 rfl (pk_mul _ _) ?_
        refine x_goto C dX3_losses_52 69 (by decide) ?_
        refine x_iast C dX3_losses_69 70 rfl (twA_loss hS) (twN_loss hS) rfl (by omega) (by decide) ?_
        refine x_iinc C dX3_losses_70 73 rfl [_, _, _, _, _, _, _, _, _, _, _, _, _, _, _, _] (nI_inc _) (by decide) rfl rfl rfl ?_
        refine x_goto C dX3_losses_73 12 (by decide) ?_
        exact ih7 (k + 1) _ _ gf gv (by omega) hM.l (hst _ (by unfold Lo; first | rw [if_pos h35] | rw [if_neg h35]))
  obtain ⟨lf, hlf⟩ := any_fn (I 508)
  obtain ⟨gf, hgf⟩ := any_fn (I 509)
  obtain ⟨gv, hgv⟩ := any_nI (I 473 62)
  refine x_aloadr_n C dX3_losses_0 1 rfl rfl ?_
  refine x_aloadr_n C dX3_losses_1 2 rfl rfl ?_
  refine x_iload_n C dX3_losses_2 3 rfl rfl ?_
  refine x_callV C lk_X3_381 dX3_losses_3 6 rfl [_] [_] rfl rfl hS.1 (Nat.le_of_ble_eq_true rfl) (by decide) (Nat.le_refl _) (Nat.le_refl _) (kX3_peopleIn hS (tk_p hI) hp10 ht) ?_
  rintro _ _ _ _ ⟨rfl, rfl, rfl, rfl⟩
  refine x_puti C fl_X3_337 (Or.inl rfl) (Or.inl rfl) dX3_losses_6 9 rfl hS.1 ?_
  refine x_ic (j := 0) C dX3_losses_9 10 rfl ?_
  refine x_istore C dX3_losses_10 12 rfl [_, _, _, _, _, _, _, _, _, _, _, _, _, _, _, _] (by decide) rfl rfl ?_
  refine hA 121 0 _ lf gf gv (Nat.zero_add _) ⟨fun b i q1 q2 q3 q4 => ?_, sto_ss _ _ _ _, fun j _ => hlf j, fun j _ => hgf j, hgv⟩ (fun i hi => by omega)
  rw [sto_at, if_neg (fun q => q4 ⟨q.1, Or.inl (by omega)⟩)]
end Tw14
