/-! the component: loss, gives -/
def Qo (v : Int32) (gv : Int32) (K : Ly) (T : Mi) (S : Sh) (I : Mi) (J : Ml) : Option Value → Sh → Mi → Ml → Prop := fun r S' I' J' => r = some (.int v) ∧ S = S' ∧ J = J' ∧ CoR K S I' T ∧ fzI I I' ∧ (¬ v = -1 → I' 0 25 = gv)
theorem loss_m1 {T : Mi} (hI : Tok T) {t d up dw sm : Int32} (h : sp_loss T t d up dw sm = -1) : loB T t d up dw sm = false := by
  cases e : loB T t d up dw sm with
  | false => rfl
  | true =>
    have ht6 := tk_t2 hI
    unfold sp_loss at h
    rw [if_pos e] at h
    obtain ⟨t, d, up, dw, sm, ht, hd, hup, hdw, hsm, rfl, rfl, rfl, rfl, rfl⟩ := lo_of hI e
    have hr10 := tk_r2 hI (show t < 6 by omega)
    rw [nt_nI (show t < 2 ^ 31 by omega), nt_nI (show sm < 2 ^ 31 by omega)] at h
    have := Lo_le (fe := feI T t) (up := nt (nI up)) (dw := nt (nI dw)) hsm (nt (nI d)) (hd0 T t) (us0 T t) (Nat.le_trans (cnt_le _ _) hr10) (Nat.le_trans (cnt_le _ _) hr10)
    exact absurd h (nI_m1 (by omega))
section Co40
variable {w : Wd} {l : Launch} {K : Ly} {S : Sh} {I T : Mi} {J : Ml}
theorem kX1_loss (hR : CoR K S I T) (hI : Tok T) (hL : LsOk T) {t d up dw sm : Int32} : Ct w l yX1_loss cX1_loss 12 (some .int) 505 0 0 [.ref 0, .int t, .int d, .int up, .int dw, .int sm] S I J (Qo (sp_loss T t d up dw sm) (sp_gives T t d up dw sm) K T S I J) := by
  refine Ct.of [some _, some _, some _, some _, some _, some _, none, none, none, none, none, none] rfl (Nat.le_of_ble_eq_true rfl) (by decide) ?_
  intro κ hκ C
  subst hκ
  have hC := cr_S hR
  have hp10 := tk_p2 hI
  have ht6 := tk_t2 hI
  have hg30 := tk_g2 hI
  have hc30 := tk_c2 hI
  have hn500 := tk_n2 hI
  refine x_aloadr_n C dX1_loss_0 1 rfl rfl ?_
  refine x_iload_n C dX1_loss_1 2 rfl rfl ?_
  refine x_iload_n C dX1_loss_2 3 rfl rfl ?_
  refine x_iload_n C dX1_loss_3 4 rfl rfl ?_
  refine x_iload C dX1_loss_4 6 rfl rfl ?_
  refine x_iload C dX1_loss_6 8 rfl rfl ?_
  refine x_callV C lk_X1_371 dX1_loss_8 11 rfl [_, _, _, _, _] [] rfl rfl hC.1 (Nat.le_of_ble_eq_true rfl) (by decide) (Nat.le_refl _) (Nat.le_refl _) (kX1_isLoss hR) ?_
  rintro _ _ _ _ ⟨rfl, rfl, rfl, rfl⟩
  refine x_ifneZ C dX1_loss_11 14 16 rfl (by decide) (fun h11 => ?_) (fun h11 => ?_)
  · obtain ⟨t, d, up, dw, sm, ht, hd, hup, hdw, hsm, rfl, rfl, rfl, rfl, rfl⟩ := lo_of hI h11
    have et : nt (nI t) = t := nt_nI (by omega)
    have ed : nt (nI d) = d := nt_nI (by omega)
    have eu : nt (nI up) = up := nt_nI (by omega)
    have ew : nt (nI dw) = dw := nt_nI (by omega)
    have es : nt (nI sm) = sm := nt_nI (by omega)
    have hr10 := tk_r2 hI (show t < 6 by omega)
    have hh0 : hd0 T t ≤ 10 := Nat.le_trans (cnt_le _ _) hr10
    have hu0 : us0 T t ≤ 10 := Nat.le_trans (cnt_le _ _) hr10
    have hsp : sp_loss T (nI t) (nI d) (nI up) (nI dw) (nI sm) = nI (Lo (feI T t) up dw sm d (hd0 T t) (us0 T t)) ∧ sp_gives T (nI t) (nI d) (nI up) (nI dw) (nI sm) = nI (gaN (feI T t) up dw sm (hd0 T t) (us0 T t) d) := by
      unfold sp_loss sp_gives
      rw [if_pos h11, if_pos h11, et, ed, eu, ew, es]
      exact ⟨rfl, rfl⟩
    have hS2 : S.1 8 = 2 := coA_state hC
    rw [hsp.1, hsp.2]
    have hend : ∀ (M : Mi), lqM I M → M 8 3 = nI (peopN T t (pn T)) → M 8 4 = T 473 16 → (∀ e h k, e < d ∨ e = 0 → h ≤ 10 → k ≤ 10 → M (87 + 12 * e + h) k = nI (Lo (feI T t) up dw sm e h k)) → XX w κ (Zr w κ (Qo (nI (Lo (feI T t) up dw sm d (hd0 T t) (us0 T t))) (nI (gaN (feI T t) up dw sm (hd0 T t) (us0 T t) d)) K T S I J)) 0 0 191 [some (.ref 0), some (.int (nI t)), some (.int (nI d)), some (.int (nI up)), some (.int (nI dw)), some (.int (nI sm)), some (.ref (ta K t)), some (.int (nI (hd0 T t))), some (.int (nI (us0 T t))), none, none, none] [] S M J := by
      intro M hM m3 m4 hrow
      have hMR := CoR_25 (CoR_lq hR hM) (nI 0)
      have hg := hC.2.2.2.2.2.1 0 (by omega)
      have hg2 := hC.2.2.2.2.2.2.1 0 (hd0 T t) (by omega) (by omega)
      have hfz : fzI I M := fun a q1 q2 => hM.1 a (by omega) (by omega) (by omega)
      refine x_aloadr_n C dX1_loss_191 192 rfl rfl ?_
      refine x_ic (j := 0) C dX1_loss_192 193 rfl ?_
      refine x_puti C fl_X1_368 (Or.inl rfl) (Or.inl rfl) dX1_loss_193 196 rfl hC.1 ?_
      refine x_iload_n C dX1_loss_196 197 rfl rfl ?_
      refine x_ifneN C dX1_loss_197 200 215 rfl (by decide) (by omega) (fun h197 => ?_) (fun h197 => ?_)
      · obtain ⟨e, rfl⟩ : ∃ e, d = e + 1 := ⟨d - 1, by omega⟩
        refine x_aloadr_n C dX1_loss_215 216 rfl rfl ?_
        refine x_aloadr C dX1_loss_216 218 rfl rfl ?_
        refine x_iload_n C dX1_loss_218 219 rfl rfl ?_
        refine x_iload C dX1_loss_219 221 rfl rfl ?_
        refine x_iload C dX1_loss_221 223 rfl rfl ?_
        refine x_iload_n C dX1_loss_223 224 rfl rfl ?_
        refine x_iload C dX1_loss_224 226 rfl rfl ?_
        refine x_callV C lk_X1_375 dX1_loss_226 229 rfl [_, _, _, _, _, _] [] rfl rfl hC.1 (Nat.le_of_ble_eq_true rfl) (by decide) (Nat.le_refl _) (Nat.le_refl _) (kX1_lossOf hMR hI ht (show e < 30 by omega) hh0 hu0 hup hdw hsm m3 m4 (fun h k q1 q2 => (congrFun (sto_n M 25 (nI 0) (show 87 + 12 * e + h ≠ 0 by omega)) _).trans (hrow e h k (Or.inl (by omega)) q1 q2))) ?_
        rintro _ _ M2 _ ⟨rfl, rfl, rfl, hM2, hgv⟩
        exact x_iret C dX1_loss_229 (Nat.le_refl _) (Nat.le_refl _) ⟨rfl, rfl, rfl, CoR_ls hMR hM2, fun a q1 q2 => (hM2.1 a (by omega) (by omega)).trans ((sto_n _ _ _ (by omega)).trans (hfz a q1 q2)), fun _ => hgv⟩
      · have h197' : d = 0 := h197
        subst h197'
        refine x_aloadr_n C dX1_loss_200 201 rfl rfl ?_
        refine x_getr C fl_X1_75 (Or.inr ⟨_, rfl⟩) dX1_loss_201 204 rfl hC.1 (coR_losses hC) ?_
        refine x_ic (j := 0) C dX1_loss_204 205 rfl ?_
        refine x_aaldr (t := 11) C dX1_loss_205 206 rfl (coA_losses hC) (by decide) (coN_losses hC) rfl (by omega) (by decide) hg.1 ?_
        refine x_iload C dX1_loss_206 208 rfl rfl ?_
        refine x_aaldr (t := 8) C dX1_loss_208 209 rfl hg.2.1 (by decide) hg.2.2 rfl (by omega) (by decide) hg2.1 ?_
        refine x_iload C dX1_loss_209 211 rfl rfl ?_
        refine x_iald C dX1_loss_211 212 rfl hg2.2.1 hg2.2.2 rfl (by omega) (by decide) ((congrFun (sto_n M 25 (nI 0) (show 87 + 12 * 0 + hd0 T t ≠ 0 by omega)) _).trans (hrow 0 _ _ (Or.inr rfl) hh0 hu0)) ?_
        refine x_goto C dX1_loss_212 229 (by decide) ?_
        exact x_iret C dX1_loss_229 (Nat.le_refl _) (Nat.le_refl _) ⟨rfl, rfl, rfl, hMR, fz_sto hfz (by decide), fun _ => sto_ss _ _ _ _⟩
    have hK : ∀ (j k : Nat) (M : Mi), k + j = max d 1 → 1 ≤ k → lqM I M → M 8 3 = nI (peopN T t (pn T)) → M 8 4 = T 473 16 → (∀ e h u, e < k → h ≤ 10 → u ≤ 10 → M (87 + 12 * e + h) u = nI (Lo (feI T t) up dw sm e h u)) → XX w κ (Zr w κ (Qo (nI (Lo (feI T t) up dw sm d (hd0 T t) (us0 T t))) (nI (gaN (feI T t) up dw sm (hd0 T t) (us0 T t) d)) K T S I J)) 0 0 119 [some (.ref 0), some (.int (nI t)), some (.int (nI d)), some (.int (nI up)), some (.int (nI dw)), some (.int (nI sm)), some (.ref (ta K t)), some (.int (nI (hd0 T t))), some (.int (nI (us0 T t))), some (.int (nI k)), none, none] [] S M J := by
      intro j
      induction j with
      | zero =>
        intro k M ej h1 hM m3 m4 hrow
        refine x_iload C dX1_loss_119 121 rfl rfl ?_
        refine x_iload_n C dX1_loss_121 122 rfl rfl ?_
        refine x_icmpgeN C dX1_loss_122 125 191 rfl (by decide) (by omega) (by omega) (fun _ => ?_) (fun h122 => absurd h122 (by omega))
        refine x_ls [some _, some _, some _, some _, some _, some _, some _, some _, some _, none, none, none] ⟨rfl, rfl, rfl, rfl, rfl, rfl, rfl, rfl, rfl, trivial⟩ ?_
        exact hend M hM m3 m4 (fun e h u q => hrow e h u (by omega))
      | succ j ih =>
        intro k M ej h1 hM m3 m4 hrow
        have hH : ∀ (j h : Nat) (M : Mi), h + j = 11 → lqM I M → M 8 3 = nI (peopN T t (pn T)) → M 8 4 = T 473 16 → (∀ e h u, e < k → h ≤ 10 → u ≤ 10 → M (87 + 12 * e + h) u = nI (Lo (feI T t) up dw sm e h u)) → (∀ h' u, h' < h → u ≤ 10 → M (87 + 12 * k + h') u = nI (Lo (feI T t) up dw sm k h' u)) → XX w κ (Zr w κ (Qo (nI (Lo (feI T t) up dw sm d (hd0 T t) (us0 T t))) (nI (gaN (feI T t) up dw sm (hd0 T t) (us0 T t) d)) K T S I J)) 0 0 128 [some (.ref 0), some (.int (nI t)), some (.int (nI d)), some (.int (nI up)), some (.int (nI dw)), some (.int (nI sm)), some (.ref (ta K t)), some (.int (nI (hd0 T t))), some (.int (nI (us0 T t))), some (.int (nI k)), some (.int (nI h)), none] [] S M J := by
          intro j
          induction j with
          | zero =>
            intro h M ej hM m3 m4 hrow hrk
            refine x_iload C dX1_loss_128 130 rfl rfl ?_
            refine x_bip (j := 10) C dX1_loss_130 132 rfl (by decide) ?_
            refine x_icmpgtN C dX1_loss_132 135 185 rfl (by decide) (by omega) (by omega) (fun _ => ?_) (fun h132 => absurd h132 (by omega))
            refine x_iinc C dX1_loss_185 188 rfl [_, _, _, _, _, _, _, _, _, _, _, _] (nI_inc _) (by decide) rfl rfl rfl ?_
            refine x_goto C dX1_loss_188 119 (by decide) ?_
            refine x_ls [some _, some _, some _, some _, some _, some _, some _, some _, some _, some _, none, none] ⟨rfl, rfl, rfl, rfl, rfl, rfl, rfl, rfl, rfl, rfl, trivial⟩ ?_
            refine ih (k + 1) M (by omega) (by omega) hM m3 m4 (fun e h' u q1 q2 q3 => ?_)
            by_cases ee : e = k
            · rw [ee]
              exact hrk h' u (by omega) q3
            · exact hrow e h' u (by omega) q2 q3
          | succ j ihh =>
            intro h M ej hM m3 m4 hrow hrk
            have hg := hC.2.2.2.2.2.1 k (by omega)
            have hg2 := hC.2.2.2.2.2.2.1 k h (by omega) (by omega)
            have hU : ∀ (j u : Nat) (M : Mi), u + j = 11 → lqM I M → M 8 3 = nI (peopN T t (pn T)) → M 8 4 = T 473 16 → (∀ e h u, e < k → h ≤ 10 → u ≤ 10 → M (87 + 12 * e + h) u = nI (Lo (feI T t) up dw sm e h u)) → (∀ h' u, h' < h → u ≤ 10 → M (87 + 12 * k + h') u = nI (Lo (feI T t) up dw sm k h' u)) → (∀ u', u' < u → M (87 + 12 * k + h) u' = nI (Lo (feI T t) up dw sm k h u')) → XX w κ (Zr w κ (Qo (nI (Lo (feI T t) up dw sm d (hd0 T t) (us0 T t))) (nI (gaN (feI T t) up dw sm (hd0 T t) (us0 T t) d)) K T S I J)) 0 0 138 [some (.ref 0), some (.int (nI t)), some (.int (nI d)), some (.int (nI up)), some (.int (nI dw)), some (.int (nI sm)), some (.ref (ta K t)), some (.int (nI (hd0 T t))), some (.int (nI (us0 T t))), some (.int (nI k)), some (.int (nI h)), some (.int (nI u))] [] S M J := by
              intro j
              induction j with
              | zero =>
                intro u M ej hM m3 m4 hrow hrk hru
                refine x_iload C dX1_loss_138 140 rfl rfl ?_
                refine x_bip (j := 10) C dX1_loss_140 142 rfl (by decide) ?_
                refine x_icmpgtN C dX1_loss_142 145 179 rfl (by decide) (by omega) (by omega) (fun _ => ?_) (fun h142 => absurd h142 (by omega))
                refine x_iinc C dX1_loss_179 182 rfl [_, _, _, _, _, _, _, _, _, _, _, _] (nI_inc _) (by decide) rfl rfl rfl ?_
                refine x_goto C dX1_loss_182 128 (by decide) ?_
                refine x_ls [some _, some _, some _, some _, some _, some _, some _, some _, some _, some _, some _, none] ⟨rfl, rfl, rfl, rfl, rfl, rfl, rfl, rfl, rfl, rfl, rfl, trivial⟩ ?_
                refine ihh (h + 1) M (by omega) hM m3 m4 hrow (fun h' u' q1 q2 => ?_)
                by_cases ee : h' = h
                · rw [ee]
                  exact hru u' (by omega)
                · exact hrk h' u' (by omega) q2
              | succ j ihu =>
                intro u M ej hM m3 m4 hrow hrk hru
                obtain ⟨e, he⟩ : ∃ e, k = e + 1 := ⟨k - 1, by omega⟩
                refine x_iload C dX1_loss_138 140 rfl rfl ?_
                refine x_bip (j := 10) C dX1_loss_140 142 rfl (by decide) ?_
                refine x_icmpgtN C dX1_loss_142 145 179 rfl (by decide) (by omega) (by omega) (fun h142 => absurd h142 (by omega)) (fun _ => ?_)
                refine x_aloadr_n C dX1_loss_145 146 rfl rfl ?_
                refine x_getr C fl_X1_75 (Or.inr ⟨_, rfl⟩) dX1_loss_146 149 rfl hC.1 (coR_losses hC) ?_
                refine x_iload C dX1_loss_149 151 rfl rfl ?_
                refine x_aaldr (t := 11) C dX1_loss_151 152 rfl (coA_losses hC) (by decide) (coN_losses hC) rfl (by omega) (by decide) hg.1 ?_
                refine x_iload C dX1_loss_152 154 rfl rfl ?_
                refine x_aaldr (t := 8) C dX1_loss_154 155 rfl hg.2.1 (by decide) hg.2.2 rfl (by omega) (by decide) hg2.1 ?_
                refine x_iload C dX1_loss_155 157 rfl rfl ?_
                refine x_aloadr_n C dX1_loss_157 158 rfl rfl ?_
                refine x_aloadr C dX1_loss_158 160 rfl rfl ?_
                refine x_iload C dX1_loss_160 162 rfl rfl ?_
                refine x_iload C dX1_loss_162 164 rfl rfl ?_
                refine x_iload C dX1_loss_164 166 rfl rfl ?_
                refine x_iload_n C dX1_loss_166 167 rfl rfl ?_
                refine x_iload C dX1_loss_167 169 rfl rfl ?_
                refine x_callV C lk_X1_375 dX1_loss_169 172 rfl [_, _, _, _, _, _] [_, _] rfl rfl hC.1 (Nat.le_of_ble_eq_true rfl) (by decide) (Nat.le_refl _) (Nat.le_refl _) (he ▸ kX1_lossOf (CoR_lq hR hM) hI ht (show e < 30 by omega) (show h ≤ 10 by omega) (show u ≤ 10 by omega) hup hdw hsm m3 m4 (fun h' k' q1 q2 => hrow e h' k' (by omega) q1 q2)) ?_
                rintro _ _ M2 _ ⟨rfl, rfl, rfl, hM2, -⟩
                refine x_iast C dX1_loss_172 173 rfl hg2.2.1 hg2.2.2 rfl (by omega) (by decide) ?_
                refine x_iinc C dX1_loss_173 176 rfl [_, _, _, _, _, _, _, _, _, _, _, _] (nI_inc _) (by decide) rfl rfl rfl ?_
                refine x_goto C dX1_loss_176 138 (by decide) ?_
                refine ihu (u + 1) _ (by omega) ⟨fun a q1 q2 q3 => ?_, fun i q => ?_⟩ ?_ ?_ (fun e' h' u' q1 q2 q3 => ?_) (fun h' u' q1 q2 => ?_) (fun u' q1 => ?_)
                · rw [sto_n _ _ _ (by omega), hM2.1 a q1 q2]
                  exact hM.1 a q1 q2 q3
                · rw [sto_n _ _ _ (by omega), hM2.2.1 i q]
                  exact hM.2 i q
                · rw [sto_n _ _ _ (by omega), hM2.2.2 3 (by omega)]
                  exact m3
                · rw [sto_n _ _ _ (by omega), hM2.2.2 4 (by omega)]
                  exact m4
                · rw [sto_n _ _ _ (by omega), hM2.1 _ (by omega) (by omega)]
                  exact hrow e' h' u' q1 q2 q3
                · rw [sto_n _ _ _ (by omega), hM2.1 _ (by omega) (by omega)]
                  exact hrk h' u' q1 q2
                · rw [sto_at]
                  by_cases ee : u' = u
                  · rw [if_pos ⟨rfl, ee⟩, ee]
                    try rw [he]
                  · rw [if_neg (fun q => ee q.2), hM2.1 _ (by omega) (by omega)]
                    exact hru u' (by omega)
            refine x_iload C dX1_loss_128 130 rfl rfl ?_
            refine x_bip (j := 10) C dX1_loss_130 132 rfl (by decide) ?_
            refine x_icmpgtN C dX1_loss_132 135 185 rfl (by decide) (by omega) (by omega) (fun h132 => absurd h132 (by omega)) (fun _ => ?_)
            refine x_ic (j := 0) C dX1_loss_135 136 rfl ?_
            refine x_istore C dX1_loss_136 138 rfl [_, _, _, _, _, _, _, _, _, _, _, _] (by decide) rfl rfl ?_
            exact hU 11 0 M rfl hM m3 m4 hrow hrk (fun u' q => absurd q (Nat.not_lt_zero _))
        refine x_iload C dX1_loss_119 121 rfl rfl ?_
        refine x_iload_n C dX1_loss_121 122 rfl rfl ?_
        refine x_icmpgeN C dX1_loss_122 125 191 rfl (by decide) (by omega) (by omega) (fun h122 => absurd h122 (by omega)) (fun _ => ?_)
        refine x_ic (j := 0) C dX1_loss_125 126 rfl ?_
        refine x_istore C dX1_loss_126 128 rfl [_, _, _, _, _, _, _, _, _, _, _, _] (by decide) rfl rfl ?_
        exact hH 11 0 M rfl hM m3 m4 hrow (fun h' u' q => absurd q (Nat.not_lt_zero _))
    have hg := hC.2.2.2.2.2.1 0 (by omega)
    have hH0 : ∀ (j h : Nat) (M : Mi), h + j = 11 → lqM I M → M 8 3 = nI (peopN T t (pn T)) → M 8 4 = T 473 16 → (∀ h' u, h' < h → u ≤ 10 → M (87 + 12 * 0 + h') u = nI (Lo (feI T t) up dw sm 0 h' u)) → XX w κ (Zr w κ (Qo (nI (Lo (feI T t) up dw sm d (hd0 T t) (us0 T t))) (nI (gaN (feI T t) up dw sm (hd0 T t) (us0 T t) d)) K T S I J)) 0 0 49 [some (.ref 0), some (.int (nI t)), some (.int (nI d)), some (.int (nI up)), some (.int (nI dw)), some (.int (nI sm)), some (.ref (ta K t)), some (.int (nI (hd0 T t))), some (.int (nI (us0 T t))), some (.int (nI h)), none, none] [] S M J := by
      intro j
      induction j with
      | zero =>
        intro h M ej hM m3 m4 hrk
        refine x_iload C dX1_loss_49 51 rfl rfl ?_
        refine x_bip (j := 10) C dX1_loss_51 53 rfl (by decide) ?_
        refine x_icmpgtN C dX1_loss_53 56 116 rfl (by decide) (by omega) (by omega) (fun _ => ?_) (fun h53 => absurd h53 (by omega))
        refine x_ic (j := 1) C dX1_loss_116 117 rfl ?_
        refine x_istore C dX1_loss_117 119 rfl [_, _, _, _, _, _, _, _, _, _, _, _] (by decide) rfl rfl ?_
        refine hK (max d 1 - 1) 1 M (by omega) (Nat.le_refl _) hM m3 m4 (fun e h' u q1 q2 q3 => ?_)
        rw [show e = 0 by omega]
        exact hrk h' u (by omega) q3
      | succ j ihh =>
        intro h M ej hM m3 m4 hrk
        have hg2 := hC.2.2.2.2.2.2.1 0 h (by omega) (by omega)
        have hU0 : ∀ (j u : Nat) (M : Mi), u + j = 11 → lqM I M → M 8 3 = nI (peopN T t (pn T)) → M 8 4 = T 473 16 → (∀ h' u, h' < h → u ≤ 10 → M (87 + 12 * 0 + h') u = nI (Lo (feI T t) up dw sm 0 h' u)) → (∀ u', u' < u → M (87 + 12 * 0 + h) u' = nI (Lo (feI T t) up dw sm 0 h u')) → XX w κ (Zr w κ (Qo (nI (Lo (feI T t) up dw sm d (hd0 T t) (us0 T t))) (nI (gaN (feI T t) up dw sm (hd0 T t) (us0 T t) d)) K T S I J)) 0 0 59 [some (.ref 0), some (.int (nI t)), some (.int (nI d)), some (.int (nI up)), some (.int (nI dw)), some (.int (nI sm)), some (.ref (ta K t)), some (.int (nI (hd0 T t))), some (.int (nI (us0 T t))), some (.int (nI h)), some (.int (nI u)), none] [] S M J := by
          intro j
          induction j with
          | zero =>
            intro u M ej hM m3 m4 hrk hru
            refine x_iload C dX1_loss_59 61 rfl rfl ?_
            refine x_bip (j := 10) C dX1_loss_61 63 rfl (by decide) ?_
            refine x_icmpgtN C dX1_loss_63 66 110 rfl (by decide) (by omega) (by omega) (fun _ => ?_) (fun h63 => absurd h63 (by omega))
            refine x_iinc C dX1_loss_110 113 rfl [_, _, _, _, _, _, _, _, _, _, _, _] (nI_inc _) (by decide) rfl rfl rfl ?_
            refine x_goto C dX1_loss_113 49 (by decide) ?_
            refine x_ls [some _, some _, some _, some _, some _, some _, some _, some _, some _, some _, none, none] ⟨rfl, rfl, rfl, rfl, rfl, rfl, rfl, rfl, rfl, rfl, trivial⟩ ?_
            refine ihh (h + 1) M (by omega) hM m3 m4 (fun h' u' q1 q2 => ?_)
            by_cases ee : h' = h
            · rw [ee]
              exact hru u' (by omega)
            · exact hrk h' u' (by omega) q2
          | succ j ihu =>
            intro u M ej hM m3 m4 hrk hru
            have hst : ∀ v, v = nI (Lo (feI T t) up dw sm 0 h u) → XX w κ (Zr w κ (Qo (nI (Lo (feI T t) up dw sm d (hd0 T t) (us0 T t))) (nI (gaN (feI T t) up dw sm (hd0 T t) (us0 T t) d)) K T S I J)) 0 0 59 [some (.ref 0), some (.int (nI t)), some (.int (nI d)), some (.int (nI up)), some (.int (nI dw)), some (.int (nI sm)), some (.ref (ta K t)), some (.int (nI (hd0 T t))), some (.int (nI (us0 T t))), some (.int (nI h)), some (.int (nI (u + 1))), none] [] S (sto M (87 + 12 * 0 + h) u v) J := by
              intro v hv
              refine ihu (u + 1) _ (by omega) ⟨fun a q1 q2 q3 => ?_, fun i q => ?_⟩ ?_ ?_ (fun h' u' q1 q2 => ?_) (fun u' q1 => ?_)
              · rw [sto_n _ _ _ (by omega)]
                exact hM.1 a q1 q2 q3
              · rw [sto_n _ _ _ (by omega)]
                exact hM.2 i q
              · rw [sto_n _ _ _ (by omega)]
                exact m3
              · rw [sto_n _ _ _ (by omega)]
                exact m4
              · rw [sto_n _ _ _ (by omega)]
                exact hrk h' u' q1 q2
              · rw [sto_at]
                by_cases ee : u' = u
                · rw [if_pos ⟨rfl, ee⟩, ee]
                  exact hv
                · rw [if_neg (fun q => ee q.2)]
                  exact hru u' (by omega)
            refine x_iload C dX1_loss_59 61 rfl rfl ?_
            refine x_bip (j := 10) C dX1_loss_61 63 rfl (by decide) ?_
            refine x_icmpgtN C dX1_loss_63 66 110 rfl (by decide) (by omega) (by omega) (fun h63 => absurd h63 (by omega)) (fun _ => ?_)
            refine x_aloadr_n C dX1_loss_66 67 rfl rfl ?_
            refine x_getr C fl_X1_75 (Or.inr ⟨_, rfl⟩) dX1_loss_67 70 rfl hC.1 (coR_losses hC) ?_
            refine x_ic (j := 0) C dX1_loss_70 71 rfl ?_
            refine x_aaldr (t := 11) C dX1_loss_71 72 rfl (coA_losses hC) (by decide) (coN_losses hC) rfl (by omega) (by decide) hg.1 ?_
            refine x_iload C dX1_loss_72 74 rfl rfl ?_
            refine x_aaldr (t := 8) C dX1_loss_74 75 rfl hg.2.1 (by decide) hg.2.2 rfl (by omega) (by decide) hg2.1 ?_
            refine x_iload C dX1_loss_75 77 rfl rfl ?_
            refine x_iload C dX1_loss_77 79 rfl rfl ?_
            refine x_iload C dX1_loss_79 81 rfl rfl ?_
            refine x_icmpleN C dX1_loss_81 84 95 rfl (by decide) (by omega) (by omega) (fun h81 => ?_) (fun h81 => ?_)
            · refine x_iload C dX1_loss_95 97 rfl rfl ?_
              refine x_iload C dX1_loss_97 99 rfl rfl ?_
              refine x_iload C dX1_loss_99 101 rfl rfl ?_
              refine x_isub C dX1_loss_101 102 rfl (pk_sub (by omega)) ?_
              refine x_imul C dX1_loss_102 103 rfl (pk_mul _ _) ?_
              refine x_iast C dX1_loss_103 104 rfl hg2.2.1 hg2.2.2 rfl (by omega) (by decide) ?_
              refine x_iinc C dX1_loss_104 107 rfl [_, _, _, _, _, _, _, _, _, _, _, _] (nI_inc _) (by decide) rfl rfl rfl ?_
              refine x_goto C dX1_loss_107 59 (by decide) ?_
              first
                | exact hst _ (by unfold Lo; rw [if_pos h81])
                | exact hst _ (by unfold Lo; rw [if_neg h81])
            · refine x_bip (j := 100) C dX1_loss_84 86 rfl (by decide) ?_
              refine x_iload C dX1_loss_86 88 rfl rfl ?_
              refine x_iload C dX1_loss_88 90 rfl rfl ?_
              refine x_isub C dX1_loss_90 91 rfl (pk_sub (by omega)) ?_
              refine x_imul C dX1_loss_91 92 rfl (pk_mul _ _) ?_
              refine x_goto C dX1_loss_92 103 (by decide) ?_
              refine x_iast C dX1_loss_103 104 rfl hg2.2.1 hg2.2.2 rfl (by omega) (by decide) ?_
              refine x_iinc C dX1_loss_104 107 rfl [_, _, _, _, _, _, _, _, _, _, _, _] (nI_inc _) (by decide) rfl rfl rfl ?_
              refine x_goto C dX1_loss_107 59 (by decide) ?_
              first
                | exact hst _ (by unfold Lo; rw [if_pos h81])
                | exact hst _ (by unfold Lo; rw [if_neg h81])
        refine x_iload C dX1_loss_49 51 rfl rfl ?_
        refine x_bip (j := 10) C dX1_loss_51 53 rfl (by decide) ?_
        refine x_icmpgtN C dX1_loss_53 56 116 rfl (by decide) (by omega) (by omega) (fun h53 => absurd h53 (by omega)) (fun _ => ?_)
        refine x_ic (j := 0) C dX1_loss_56 57 rfl ?_
        refine x_istore C dX1_loss_57 59 rfl [_, _, _, _, _, _, _, _, _, _, _, _] (by decide) rfl rfl ?_
        exact hU0 11 0 M rfl hM m3 m4 hrk (fun u' q => absurd q (Nat.not_lt_zero _))
    refine x_aloadr_n C dX1_loss_16 17 rfl rfl ?_
    refine x_iload_n C dX1_loss_17 18 rfl rfl ?_
    refine x_callV C lk_X1_349 dX1_loss_18 21 rfl [_] [] rfl rfl hC.1 (Nat.le_of_ble_eq_true rfl) (by decide) (Nat.le_refl _) (Nat.le_refl _) (kX1_lays hR hI hL ht) ?_
    rintro _ _ M _ ⟨rfl, rfl, rfl, hM, m0, m1, m2, m3, m4⟩
    have hR2 := CoR_8 hR hM
    refine x_astorer C dX1_loss_21 23 rfl [_, _, _, _, _, _, _, _, _, _, _, _] (by decide) rfl rfl ?_
    refine x_aloadr_n C dX1_loss_23 24 rfl rfl ?_
    refine x_getr C fl_X1_48 (Or.inl ⟨_, rfl⟩) dX1_loss_24 27 rfl hC.1 (coR_state hC) ?_
    refine x_geti C fl_X1_337 (Or.inl rfl) dX1_loss_27 30 rfl hS2 m1 ?_
    refine x_istore C dX1_loss_30 32 rfl [_, _, _, _, _, _, _, _, _, _, _, _] (by decide) rfl rfl ?_
    refine x_aloadr_n C dX1_loss_32 33 rfl rfl ?_
    refine x_getr C fl_X1_48 (Or.inl ⟨_, rfl⟩) dX1_loss_33 36 rfl hC.1 (coR_state hC) ?_
    refine x_geti C fl_X1_342 (Or.inl rfl) dX1_loss_36 39 rfl hS2 m2 ?_
    refine x_istore C dX1_loss_39 41 rfl [_, _, _, _, _, _, _, _, _, _, _, _] (by decide) rfl rfl ?_
    refine x_aloadr_n C dX1_loss_41 42 rfl rfl ?_
    refine x_ic (j := 0) C dX1_loss_42 43 rfl ?_
    refine x_puti C fl_X1_368 (Or.inl rfl) (Or.inl rfl) dX1_loss_43 46 rfl hC.1 ?_
    refine x_ic (j := 0) C dX1_loss_46 47 rfl ?_
    refine x_istore C dX1_loss_47 49 rfl [_, _, _, _, _, _, _, _, _, _, _, _] (by decide) rfl rfl ?_
    exact hH0 11 0 _ rfl ⟨fun a q1 q2 q3 => (sto_n _ _ _ q1).trans (hM a q2), fun i q => (sto_kn _ _ _ _ q).trans (congrFun (hM 0 (by decide)) i)⟩ m3 m4 (fun h' u' q => absurd q (Nat.not_lt_zero _))
  · refine x_icm C dX1_loss_14 15 rfl ?_
    exact x_iret C dX1_loss_15 (Nat.le_refl _) (Nat.le_refl _) ⟨by simp [sp_loss, h11], rfl, rfl, hR, fz_rfl, fun q => absurd (by simp [sp_loss, h11]) q⟩
theorem kX1_gives (hR : CoR K S I T) (hI : Tok T) (hL : LsOk T) {t d up dw sm : Int32} : Ct w l yX1_gives cX1_gives 6 (some .int) 506 0 0 [.ref 0, .int t, .int d, .int up, .int dw, .int sm] S I J (Qp (sp_gives T t d up dw sm, T) S I J 0) := by
  refine Ct.of [some _, some _, some _, some _, some _, some _] rfl (Nat.le_of_ble_eq_true rfl) (by decide) ?_
  intro κ hκ C
  subst hκ
  have hC := cr_S hR
  have hp10 := tk_p2 hI
  have ht6 := tk_t2 hI
  have hg30 := tk_g2 hI
  have hc30 := tk_c2 hI
  have hn500 := tk_n2 hI
  refine x_aloadr_n C dX1_gives_0 1 rfl rfl ?_
  refine x_iload_n C dX1_gives_1 2 rfl rfl ?_
  refine x_iload_n C dX1_gives_2 3 rfl rfl ?_
  refine x_iload_n C dX1_gives_3 4 rfl rfl ?_
  refine x_iload C dX1_gives_4 6 rfl rfl ?_
  refine x_iload C dX1_gives_6 8 rfl rfl ?_
  refine x_callV C lk_X1_379 dX1_gives_8 11 rfl [_, _, _, _, _] [] rfl rfl hC.1 (Nat.le_of_ble_eq_true rfl) (by decide) (Nat.le_refl _) (Nat.le_refl _) (kX1_loss hR hI hL) ?_
  rintro _ _ M _ ⟨rfl, rfl, rfl, hM, hf, hg⟩
  refine x_icm C dX1_gives_11 12 rfl ?_
  refine x_icmpne C dX1_gives_12 15 19 rfl (by decide) (fun h12 => ?_) (fun h12 => ?_)
  · refine x_aloadr_n C dX1_gives_19 20 rfl rfl ?_
    refine x_geti C fl_X1_368 (Or.inl rfl) dX1_gives_20 23 rfl hC.1 (hg h12) ?_
    exact x_iret C dX1_gives_23 (Nat.le_refl _) (Nat.le_refl _) (Qp_s (by first | rfl | (unfold sp_gives; rw [if_neg (by rw [loss_m1 hI h12]; decide)])) hM hf)
  · refine x_icm C dX1_gives_15 16 rfl ?_
    refine x_goto C dX1_gives_16 23 (by decide) ?_
    exact x_iret C dX1_gives_23 (Nat.le_refl _) (Nat.le_refl _) (Qp_s (by first | rfl | (unfold sp_gives; rw [if_neg (by rw [loss_m1 hI h12]; decide)])) hM hf)
end Co40
