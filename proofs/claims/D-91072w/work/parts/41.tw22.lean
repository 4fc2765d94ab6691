/-! the twin: settle, the tables -/
section Tw22
variable {w : Wd} {l : Launch} {S : Sh} {I : Mi} {J : Ml}
theorem kX3_settle (hS : twS S) (hI : Tok I) (hpr : ∀ t, t < tn I → prOk I t) (hbe : ∀ t, t < tn I → bedsOk I t) {t how : Int32} : Ct w l yX3_settle cX3_settle 12 (some .int) 5 0 0 [.ref 473, .int t, .int how] S I J (Qg (sp_settle I t how) S J) := by
  refine Ct.of [some _, some _, some _, none, none, none, none, none, none, none, none, none] rfl (Nat.le_of_ble_eq_true rfl) (by decide) ?_
  intro κ hκ C
  subst hκ
  have hp10 := tk_p2 hI
  have ht6 := tk_t2 hI
  have hg30 := tk_g2 hI
  have hc30 := tk_c2 hI
  have hn500 := tk_n2 hI
  refine x_aloadr_n C dX3_settle_0 1 rfl rfl ?_
  refine x_iload_n C dX3_settle_1 2 rfl rfl ?_
  refine x_callV C lk_X3_198 dX3_settle_2 5 rfl [_] [] rfl rfl hS.1 (Nat.le_of_ble_eq_true rfl) (by decide) (Nat.le_refl _) (Nat.le_refl _) (kX3_isOpenI hS (tk_t hI) (tk_t2 hI)) ?_
  rintro _ _ _ _ ⟨rfl, rfl, rfl, rfl⟩
  refine x_ifeqZ C dX3_settle_5 8 17 rfl (by decide) (fun h5 => ?_) (fun h5 => ?_)
  · refine x_icm C dX3_settle_17 18 rfl ?_
    exact x_iret C dX3_settle_18 (Nat.le_refl _) (Nat.le_refl _) (Qg_of (A := I) (by simp [sp_settle, no1, h5]) (gq_refl _) (jq_refl _))
  · obtain ⟨t, ht, rfl⟩ := to_I hI (op_to h5)
    have et : nt (nI t) = t := nt_nI (by omega)
    have ht6' : t < 6 := by omega
    have hr10 := tk_r2 hI ht6'
    have hal := al_lt I t hp10
    have hFAR : FARn = 1073741824 := rfl
    refine x_iload_n C dX3_settle_8 9 rfl rfl ?_
    refine x_ic (j := 0) C dX3_settle_9 10 rfl ?_
    refine x_ic (j := 1) C dX3_settle_10 11 rfl ?_
    refine x_callS C lk_X3_160 dX3_settle_11 14 rfl [_, _, _] [] rfl rfl (Nat.le_of_ble_eq_true rfl) (by decide) (Nat.le_refl _) (Nat.le_refl _) kX3_in ?_
    rintro _ _ _ _ ⟨rfl, rfl, rfl, rfl⟩
    refine x_ifneZ C dX3_settle_14 17 19 rfl (by decide) (fun h14 => ?_) (fun h14 => ?_)
    · have hsp : sp_settle I (nI t) how = (if LDI I t how (rn I t) (al I t) = FARn then no1 I else tkS I t how) := by unfold sp_settle; rw [if_pos (by rw [h5, h14]; rfl), et]
      rw [hsp]
      have hb : ∀ (i : Nat) (s : Nat), i ≤ rn I t → LDI I t how i s = 1073741824 ∨ LDI I t how i s ≤ 4000000 := by
        intro i s hi
        rcases LDI_b hp10 (hpr t ht) how hi s with h | h
        · exact Or.inl h
        · exact Or.inr (by omega)
      have hR : ∀ (j i : Nat) (M : Mi), i + j = rn I t → sq4 M I → (∀ r, r < rn I t → maOk I M t r) → (∀ r', rn I t - i ≤ r' → r' ≤ rn I t → ∀ s, s < 1024 → M 500 (1024 * r' + s) = nI (LDI I t how (rn I t - r') s)) → XX w κ (Zr w κ (Qg (if LDI I t how (rn I t) (al I t) = FARn then no1 I else tkS I t how) S J)) 0 0 86 [some (.ref 473), some (.int (nI t)), some (.int how), some (.int (nI (al I t))), some (.int (nI (rn I t))), some (.int (nI (rn I t - i) - nI 1)), none, none, none, none, none, none] [] S M J := by
        intro j
        induction j with
        | zero =>
          intro i M hi hM hma hls
          have hi : rn I t = i := Eq.symm hi
          subst hi
          rw [Nat.sub_self]
          have h0 := hls 0 (by omega) (by omega) (al I t) hal
          rw [Nat.mul_zero, Nat.zero_add, Nat.sub_zero] at h0
          have hc := hb (rn I t) (al I t) (Nat.le_refl _)
          refine x_iload C dX3_settle_86 88 rfl rfl ?_
          refine x_iflt C dX3_settle_88 91 247 rfl (by decide) (fun _ => ?_) (fun h88 => absurd h88 (not_not_intro (by decide)))
          refine x_aloadr_n C dX3_settle_247 248 rfl rfl ?_
          refine x_getr C fl_X3_96 (Or.inr ⟨_, rfl⟩) dX3_settle_248 251 rfl hS.1 (twR_least hS) ?_
          refine x_iload_n C dX3_settle_251 252 rfl rfl ?_
          refine x_iald C dX3_settle_252 253 rfl (twA_least hS) (twN_least hS) rfl (by omega) (by decide) h0 ?_
          refine x_ldcN (j := 1073741824) C dX3_settle_253 255 rfl q1560 (by decide) ?_
          refine x_icmpneN C dX3_settle_255 258 260 rfl (by decide) (by rcases hc with h | h <;> omega) (by decide) (fun h255 => ?_) (fun h255 => ?_)
          · rw [if_neg (show ¬ LDI I t how (rn I t) (al I t) = FARn from h255)]
            refine x_aloadr_n C dX3_settle_260 261 rfl rfl ?_
            refine x_iload_n C dX3_settle_261 262 rfl rfl ?_
            refine x_iload_n C dX3_settle_262 263 rfl rfl ?_
            refine x_iload_n C dX3_settle_263 264 rfl rfl ?_
            refine x_callV C lk_X3_236 dX3_settle_264 267 rfl [_, _, _] [] rfl rfl hS.1 (Nat.le_of_ble_eq_true rfl) (by decide) (Nat.le_refl _) (Nat.le_refl _) (kX3_takes hS hI ht6' (hpr t ht) (hbe t ht) hM (fun r' q s hs => hls r' (by omega) q s hs) hma h255) ?_
            rintro _ _ M9 J9 ⟨rfl, rfl, g9, j9⟩
            exact x_iret C dX3_settle_267 (Nat.le_refl _) (Nat.le_refl _) ⟨rfl, rfl, g9, j9⟩
          · refine x_icm C dX3_settle_258 259 rfl ?_
            exact x_iret C dX3_settle_259 (Nat.le_refl _) (Nat.le_refl _) (Qg_of (A := I) (by rw [if_pos h255]; rfl) hM.g (jq_refl _))
        | succ j ih =>
          intro i M hi hM hma hls
          obtain ⟨r, hr⟩ : ∃ r, rn I t - i = r + 1 := ⟨rn I t - i - 1, by omega⟩
          have hrr : r < rn I t := by omega
          have er : rn I t - (r + 1) = i := by omega
          have er2 : rn I t - r = i + 1 := by omega
          rw [hr, pk_sub (by omega), Nat.add_sub_cancel]
          have hposc : ∀ x, x ≤ 1024 → cnt (mP I t r) x ≤ 56 := by
            intro x hx
            obtain ⟨b, hb1, hb2⟩ := hbe t ht r hrr
            exact mP_cnt hp10 hb2 hb1 hx
          have hX : ∀ (j s : Nat) (M : Mi), s + j = 1024 → sq4 M I → (∀ r, r < rn I t → maOk I M t r) → lsOk I M t how r s → XX w κ (Zr w κ (Qg (if LDI I t how (rn I t) (al I t) = FARn then no1 I else tkS I t how) S J)) 0 0 94 [some (.ref 473), some (.int (nI t)), some (.int how), some (.int (nI (al I t))), some (.int (nI (rn I t))), some (.int (nI r)), some (.int (nI s)), none, none, none, none, none] [] S M J := by
            intro j
            induction j with
            | zero =>
              intro s M hs hM hma hls
              have hs : s = 1024 := hs
              subst hs
              refine x_iload C dX3_settle_94 96 rfl rfl ?_
              refine x_sip (j := 1024) C dX3_settle_96 99 rfl (by decide) ?_
              refine x_icmpgeN C dX3_settle_99 102 241 rfl (by decide) (by omega) (by omega) (fun _ => ?_) (fun h99 => absurd h99 (by omega))
              refine x_iinc C dX3_settle_241 244 rfl [_, _, _, _, _, _, _, _, _, _, _, _] (nI_dec _) (by decide) rfl rfl rfl ?_
              refine x_goto C dX3_settle_244 86 (by decide) ?_
              refine x_ls [some _, some _, some _, some _, some _, some _, none, none, none, none, none, none] ⟨rfl, rfl, rfl, rfl, rfl, rfl, trivial⟩ ?_
              have h7 := ih (i + 1) M (by omega) hM hma (fun r' q1 q2 s hs => by
                by_cases e : r' = r
                · subst e; exact hls.2 s hs
                · exact hls.1 r' (by omega) q2 s hs)
              rw [show rn I t - (i + 1) = r by omega] at h7
              exact h7
            | succ j ih2 =>
              intro s M hs hM hma hls
              obtain ⟨m1, m2⟩ := hma r hrr
              have r1 : M 473 1 = nI (pn I) := (hM 473 1 (by decide) (by decide) (by decide) (by decide)).trans (tk_p hI)
              have r488 := hM.row (b := 488) (by decide) (by decide) (by decide) (by decide)
              have r490 := hM.row (b := 490) (by decide) (by decide) (by decide) (by decide)
              have hK : ∀ (j y : Nat), y ≤ 1024 → 1024 - y ≤ j → XX w κ (Zr w κ (Qg (if LDI I t how (rn I t) (al I t) = FARn then no1 I else tkS I t how) S J)) 0 0 109 [some (.ref 473), some (.int (nI t)), some (.int how), some (.int (nI (al I t))), some (.int (nI (rn I t))), some (.int (nI r)), some (.int (nI s)), some (.int (nI (ldB (mP I t r) (LDI I t how i) (wN I t how r) s y))), some (.int (nI (cnt (mP I t r) y))), none, none, none] [] S M J := by
                intro j
                have hcc := hposc 1024 (Nat.le_refl _)
                have hend : ∀ y, y ≤ 1024 → cnt (mP I t r) y = cnt (mP I t r) 1024 → XX w κ (Zr w κ (Qg (if LDI I t how (rn I t) (al I t) = FARn then no1 I else tkS I t how) S J)) 0 0 109 [some (.ref 473), some (.int (nI t)), some (.int how), some (.int (nI (al I t))), some (.int (nI (rn I t))), some (.int (nI r)), some (.int (nI s)), some (.int (nI (ldB (mP I t r) (LDI I t how i) (wN I t how r) s y))), some (.int (nI (cnt (mP I t r) y))), none, none, none] [] S M J := by
                  intro y hy hc
                  have hcy := hposc y hy
                  have e : LDI I t how (i + 1) s = ldB (mP I t r) (LDI I t how i) (wN I t how r) s y := by
                    rw [← ldB_no hy (cnt_done hy hc)]
                    show LD _ _ _ (i + 1) s = _
                    rw [LD, show rn I t - (i + 1) = r by omega]
                  refine x_iload C dX3_settle_109 111 rfl rfl ?_
                  refine x_aloadr_n C dX3_settle_111 112 rfl rfl ?_
                  refine x_getr C fl_X3_93 (Or.inr ⟨_, rfl⟩) dX3_settle_112 115 rfl hS.1 (twR_mayMany hS) ?_
                  refine x_iload C dX3_settle_115 117 rfl rfl ?_
                  refine x_iald C dX3_settle_117 118 rfl (twA_mayMany hS) (twN_mayMany hS) rfl (by omega) (by decide) m1 ?_
                  refine x_icmpgeN C dX3_settle_118 121 219 rfl (by decide) (by omega) (by omega) (fun _ => ?_) (fun h118 => absurd h118 (by omega))
                  refine x_aloadr_n C dX3_settle_219 220 rfl rfl ?_
                  refine x_getr C fl_X3_96 (Or.inr ⟨_, rfl⟩) dX3_settle_220 223 rfl hS.1 (twR_least hS) ?_
                  refine x_sip (j := 1024) C dX3_settle_223 226 rfl (by decide) ?_
                  refine x_iload C dX3_settle_226 228 rfl rfl ?_
                  refine x_imul C dX3_settle_228 229 rfl (pk_mul _ _) ?_
                  refine x_iload C dX3_settle_229 231 rfl rfl ?_
                  refine x_iadd C dX3_settle_231 232 rfl (nI_add _ _) ?_
                  refine x_iload C dX3_settle_232 234 rfl rfl ?_
                  refine x_iast C dX3_settle_234 235 rfl (twA_least hS) (twN_least hS) rfl (by omega) (by decide) ?_
                  refine x_iinc C dX3_settle_235 238 rfl [_, _, _, _, _, _, _, _, _, _, _, _] (nI_inc _) (by decide) rfl rfl rfl ?_
                  refine x_goto C dX3_settle_238 94 (by decide) ?_
                  refine x_ls [some _, some _, some _, some _, some _, some _, some _, none, none, none, none, none] ⟨rfl, rfl, rfl, rfl, rfl, rfl, rfl, trivial⟩ ?_
                  refine ih2 (s + 1) _ (by omega) (fun b i q1 q2 q3 q4 => by rw [sto_n _ _ _ q3]; exact hM b i q1 q2 q3 q4) (fun r' q => ⟨by rw [sto_n _ _ _ (by decide)]; exact (hma r' q).1, fun x q1 q2 => by rw [sto_n _ _ _ (by decide)]; exact (hma r' q).2 x q1 q2⟩) ⟨fun r' q1 q2 s' hs' => ?_, fun s' hs' => ?_⟩
                  · rw [sto_kn _ _ _ _ (by omega)]; exact hls.1 r' q1 q2 s' hs'
                  · rw [sto_at]
                    by_cases e2 : s' = s
                    · subst e2; rw [if_pos ⟨rfl, rfl⟩, er2, e]
                    · rw [if_neg (by omega)]; exact hls.2 s' (by omega)
                induction j with
                | zero =>
                  intro y hy hj
                  have : y = 1024 := by omega
                  subst this
                  exact hend 1024 (Nat.le_refl _) rfl
                | succ j ih3 =>
                  intro y hy hj
                  by_cases hc : cnt (mP I t r) y = cnt (mP I t r) 1024
                  · exact hend y hy hc
                  · have hlt : cnt (mP I t r) y < cnt (mP I t r) 1024 := by have := cnt_mono (mP I t r) hy; omega
                    obtain ⟨x, x1, x2, x3, x4, x5⟩ := cnt_next hlt
                    have hcy := hposc y hy
                    have hmx : M 498 (64 * r + cnt (mP I t r) y) = nI x := by rw [← x4]; exact m2 _ x2 x3
                    have hw := wN_ok hp10 (hpr t ht) hrr x how
                    have hnd : nd s x < 1024 := nd_lt (n := 10) (show s < 2 ^ 10 by omega)
                    have hnd2 : nd x s < 1024 := nd_lt (n := 10) (show x < 2 ^ 10 by omega)
                    have hD := hls.1 (r + 1) (by omega) (by omega) (nd s x) hnd
                    rw [er] at hD
                    have hDb := hb i (nd s x) (by omega)
                    have hDc : LDI I t how i (nd s x) < 2 ^ 31 := by rcases hDb with h | h <;> omega
                    have hcap := ldB_cap (mP I t r) (LDI I t how i) (wN I t how r) s y
                    have e5 : ldB (mP I t r) (LDI I t how i) (wN I t how r) s (x + 1) = if nd x s = 0 ∧ ¬ LDI I t how i (nd s x) = 1073741824 then (if LDI I t how i (nd s x) + wN I t how r x < ldB (mP I t r) (LDI I t how i) (wN I t how r) s y then LDI I t how i (nd s x) + wN I t how r x else ldB (mP I t r) (LDI I t how i) (wN I t how r) s y) else ldB (mP I t r) (LDI I t how i) (wN I t how r) s y := by
                      rw [ldB, ldB_no x1 x5, x3]
                      simp only [true_and]
                    have hgo := ih3 (x + 1) (by omega) (by omega)
                    rw [cnt_t x3, x4] at hgo
                    refine x_iload C dX3_settle_109 111 rfl rfl ?_
                    refine x_aloadr_n C dX3_settle_111 112 rfl rfl ?_
                    refine x_getr C fl_X3_93 (Or.inr ⟨_, rfl⟩) dX3_settle_112 115 rfl hS.1 (twR_mayMany hS) ?_
                    refine x_iload C dX3_settle_115 117 rfl rfl ?_
                    refine x_iald C dX3_settle_117 118 rfl (twA_mayMany hS) (twN_mayMany hS) rfl (by omega) (by decide) m1 ?_
                    refine x_icmpgeN C dX3_settle_118 121 219 rfl (by decide) (by omega) (by omega) (fun h118 => absurd h118 (by omega)) (fun _ => ?_)
                    refine x_aloadr_n C dX3_settle_121 122 rfl rfl ?_
                    refine x_getr C fl_X3_90 (Or.inr ⟨_, rfl⟩) dX3_settle_122 125 rfl hS.1 (twR_may hS) ?_
                    refine x_bip (j := 64) C dX3_settle_125 127 rfl (by decide) ?_
                    refine x_iload C dX3_settle_127 129 rfl rfl ?_
                    refine x_imul C dX3_settle_129 130 rfl (pk_mul _ _) ?_
                    refine x_iload C dX3_settle_130 132 rfl rfl ?_
                    refine x_iadd C dX3_settle_132 133 rfl (nI_add _ _) ?_
                    refine x_iald C dX3_settle_133 134 rfl (twA_may hS) (twN_may hS) rfl (by omega) (by decide) hmx ?_
                    refine x_istore C dX3_settle_134 136 rfl [_, _, _, _, _, _, _, _, _, _, _, _] (by decide) rfl rfl ?_
                    refine x_iload C dX3_settle_136 138 rfl rfl ?_
                    refine x_iload C dX3_settle_138 140 rfl rfl ?_
                    refine x_icm C dX3_settle_140 141 rfl ?_
                    refine x_ixor C dX3_settle_141 142 rfl rfl ?_
                    refine x_iand C dX3_settle_142 143 rfl (nI_nd _ _) ?_
                    refine x_ifeqN C dX3_settle_143 146 149 rfl (by decide) (by omega) (fun h143 => ?_) (fun h143 => ?_)
                    · refine x_aloadr_n C dX3_settle_149 150 rfl rfl ?_
                      refine x_getr C fl_X3_96 (Or.inr ⟨_, rfl⟩) dX3_settle_150 153 rfl hS.1 (twR_least hS) ?_
                      refine x_sip (j := 1024) C dX3_settle_153 156 rfl (by decide) ?_
                      refine x_iload C dX3_settle_156 158 rfl rfl ?_
                      refine x_ic (j := 1) C dX3_settle_158 159 rfl ?_
                      refine x_iadd C dX3_settle_159 160 rfl (nI_add _ _) ?_
                      refine x_imul C dX3_settle_160 161 rfl (pk_mul _ _) ?_
                      refine x_iload C dX3_settle_161 163 rfl rfl ?_
                      refine x_iload C dX3_settle_163 165 rfl rfl ?_
                      refine x_icm C dX3_settle_165 166 rfl ?_
                      refine x_ixor C dX3_settle_166 167 rfl rfl ?_
                      refine x_iand C dX3_settle_167 168 rfl (nI_nd _ _) ?_
                      refine x_iadd C dX3_settle_168 169 rfl (nI_add _ _) ?_
                      refine x_iald C dX3_settle_169 170 rfl (twA_least hS) (twN_least hS) rfl (by omega) (by decide) hD ?_
                      refine x_istore C dX3_settle_170 172 rfl [_, _, _, _, _, _, _, _, _, _, _, _] (by decide) rfl rfl ?_
                      refine x_iload C dX3_settle_172 174 rfl rfl ?_
                      refine x_ldcN (j := 1073741824) C dX3_settle_174 176 rfl q1560 (by decide) ?_
                      refine x_icmpneN C dX3_settle_176 179 182 rfl (by decide) (by omega) (by omega) (fun h176 => ?_) (fun h176 => ?_)
                      · have hDs := hDb.resolve_left h176
                        refine x_iload C dX3_settle_182 184 rfl rfl ?_
                        refine x_aloadr_n C dX3_settle_184 185 rfl rfl ?_
                        refine x_iload_n C dX3_settle_185 186 rfl rfl ?_
                        refine x_iload C dX3_settle_186 188 rfl rfl ?_
                        refine x_iload C dX3_settle_188 190 rfl rfl ?_
                        refine x_iload_n C dX3_settle_190 191 rfl rfl ?_
                        refine x_callV C lk_X3_232 dX3_settle_191 194 rfl [_, _, _, _] [_] rfl rfl hS.1 (Nat.le_of_ble_eq_true rfl) (by decide) (Nat.le_refl _) (Nat.le_refl _) (kX3_weight hS r1 hp10 ht6' (by omega) (by omega)) ?_
                        rintro _ _ _ _ ⟨rfl, rfl, rfl, rfl⟩
                        rw [wgt_q r488 r490, hw.1]
                        refine x_iadd C dX3_settle_194 195 rfl (nI_add _ _) ?_
                        refine x_istore C dX3_settle_195 197 rfl [_, _, _, _, _, _, _, _, _, _, _, _] (by decide) rfl rfl ?_
                        refine x_iload C dX3_settle_197 199 rfl rfl ?_
                        refine x_iload C dX3_settle_199 201 rfl rfl ?_
                        refine x_icmpgeN C dX3_settle_201 204 209 rfl (by decide) (by omega) (by omega) (fun h201 => ?_) (fun h201 => ?_)
                        · rw [if_pos ⟨h143, h176⟩, if_neg h201] at e5
                          rw [e5] at hgo
                          refine x_iload C dX3_settle_209 211 rfl rfl ?_
                          refine x_istore C dX3_settle_211 213 rfl [_, _, _, _, _, _, _, _, _, _, _, _] (by decide) rfl rfl ?_
                          refine x_iinc C dX3_settle_213 216 rfl [_, _, _, _, _, _, _, _, _, _, _, _] (nI_inc _) (by decide) rfl rfl rfl ?_
                          refine x_goto C dX3_settle_216 109 (by decide) ?_
                          refine x_ls [some _, some _, some _, some _, some _, some _, some _, some _, some _, none, none, none] ⟨rfl, rfl, rfl, rfl, rfl, rfl, rfl, rfl, rfl, trivial⟩ ?_
                          exact hgo
                        · rw [if_pos ⟨h143, h176⟩, if_pos h201] at e5
                          rw [e5] at hgo
                          refine x_iload C dX3_settle_204 206 rfl rfl ?_
                          refine x_goto C dX3_settle_206 211 (by decide) ?_
                          refine x_istore C dX3_settle_211 213 rfl [_, _, _, _, _, _, _, _, _, _, _, _] (by decide) rfl rfl ?_
                          refine x_iinc C dX3_settle_213 216 rfl [_, _, _, _, _, _, _, _, _, _, _, _] (nI_inc _) (by decide) rfl rfl rfl ?_
                          refine x_goto C dX3_settle_216 109 (by decide) ?_
                          refine x_ls [some _, some _, some _, some _, some _, some _, some _, some _, some _, none, none, none] ⟨rfl, rfl, rfl, rfl, rfl, rfl, rfl, rfl, rfl, trivial⟩ ?_
                          exact hgo
                      · rw [if_neg (fun q => q.2 h176)] at e5
                        rw [e5] at hgo
                        refine x_goto C dX3_settle_179 213 (by decide) ?_
                        refine x_iinc C dX3_settle_213 216 rfl [_, _, _, _, _, _, _, _, _, _, _, _] (nI_inc _) (by decide) rfl rfl rfl ?_
                        refine x_goto C dX3_settle_216 109 (by decide) ?_
                        refine x_ls [some _, some _, some _, some _, some _, some _, some _, some _, some _, none, none, none] ⟨rfl, rfl, rfl, rfl, rfl, rfl, rfl, rfl, rfl, trivial⟩ ?_
                        exact hgo
                    · rw [if_neg (fun q => h143 q.1)] at e5
                      rw [e5] at hgo
                      refine x_goto C dX3_settle_146 213 (by decide) ?_
                      refine x_iinc C dX3_settle_213 216 rfl [_, _, _, _, _, _, _, _, _, _, _, _] (nI_inc _) (by decide) rfl rfl rfl ?_
                      refine x_goto C dX3_settle_216 109 (by decide) ?_
                      refine x_ls [some _, some _, some _, some _, some _, some _, some _, some _, some _, none, none, none] ⟨rfl, rfl, rfl, rfl, rfl, rfl, rfl, rfl, rfl, trivial⟩ ?_
                      exact hgo
              refine x_iload C dX3_settle_94 96 rfl rfl ?_
              refine x_sip (j := 1024) C dX3_settle_96 99 rfl (by decide) ?_
              refine x_icmpgeN C dX3_settle_99 102 241 rfl (by decide) (by omega) (by omega) (fun h99 => absurd h99 (by omega)) (fun _ => ?_)
              refine x_ldcN (j := 1073741824) C dX3_settle_102 104 rfl q1560 (by decide) ?_
              refine x_istore C dX3_settle_104 106 rfl [_, _, _, _, _, _, _, _, _, _, _, _] (by decide) rfl rfl ?_
              refine x_ic (j := 0) C dX3_settle_106 107 rfl ?_
              refine x_istore C dX3_settle_107 109 rfl [_, _, _, _, _, _, _, _, _, _, _, _] (by decide) rfl rfl ?_
              exact hK 1024 0 (by omega) (by omega)
          refine x_iload C dX3_settle_86 88 rfl rfl ?_
          refine x_iflt C dX3_settle_88 91 247 rfl (by decide) (fun h88 => absurd h88 (nI_pos (by omega))) (fun _ => ?_)
          refine x_ic (j := 0) C dX3_settle_91 92 rfl ?_
          refine x_istore C dX3_settle_92 94 rfl [_, _, _, _, _, _, _, _, _, _, _, _] (by decide) rfl rfl ?_
          exact hX 1024 0 M rfl hM hma ⟨fun r' q1 q2 s hs => hls r' (by omega) q2 s hs, fun s hs => by omega⟩
      have hA : ∀ (j s : Nat) (M : Mi), s + j = 1024 → sq4 M I → (∀ r, r < rn I t → maOk I M t r) → (∀ s', s' < s → M 500 (1024 * rn I t + s') = nI (LDI I t how 0 s')) → XX w κ (Zr w κ (Qg (if LDI I t how (rn I t) (al I t) = FARn then no1 I else tkS I t how) S J)) 0 0 41 [some (.ref 473), some (.int (nI t)), some (.int how), some (.int (nI (al I t))), some (.int (nI (rn I t))), some (.int (nI s)), none, none, none, none, none, none] [] S M J := by
        intro j
        induction j with
        | zero =>
          intro s M hs hM hma h0
          have hs : s = 1024 := hs
          subst hs
          refine x_iload C dX3_settle_41 43 rfl rfl ?_
          refine x_sip (j := 1024) C dX3_settle_43 46 rfl (by decide) ?_
          refine x_icmpgeN C dX3_settle_46 49 80 rfl (by decide) (by omega) (by omega) (fun _ => ?_) (fun h46 => absurd h46 (by omega))
          refine x_iload C dX3_settle_80 82 rfl rfl ?_
          refine x_ic (j := 1) C dX3_settle_82 83 rfl ?_
          refine x_isub C dX3_settle_83 84 rfl rfl ?_
          refine x_istore C dX3_settle_84 86 rfl [_, _, _, _, _, _, _, _, _, _, _, _] (by decide) rfl rfl ?_
          have h7 := hR (rn I t) 0 M (Nat.zero_add _) hM hma (fun r' q1 q2 s hs => by
            have : r' = rn I t := by omega
            subst this
            rw [Nat.sub_self]
            exact h0 s hs)
          rw [Nat.sub_zero] at h7
          exact h7
        | succ j ih =>
          intro s M hs hM hma h0
          refine x_iload C dX3_settle_41 43 rfl rfl ?_
          refine x_sip (j := 1024) C dX3_settle_43 46 rfl (by decide) ?_
          refine x_icmpgeN C dX3_settle_46 49 80 rfl (by decide) (by omega) (by omega) (fun h46 => absurd h46 (by omega)) (fun _ => ?_)
          refine x_aloadr_n C dX3_settle_49 50 rfl rfl ?_
          refine x_getr C fl_X3_96 (Or.inr ⟨_, rfl⟩) dX3_settle_50 53 rfl hS.1 (twR_least hS) ?_
          refine x_sip (j := 1024) C dX3_settle_53 56 rfl (by decide) ?_
          refine x_iload C dX3_settle_56 58 rfl rfl ?_
          refine x_imul C dX3_settle_58 59 rfl (pk_mul _ _) ?_
          refine x_iload C dX3_settle_59 61 rfl rfl ?_
          refine x_iadd C dX3_settle_61 62 rfl (nI_add _ _) ?_
          refine x_iload C dX3_settle_62 64 rfl rfl ?_
          apply x_jNN (pj := 73) (fun kt kf => x_ifneN C dX3_settle_64 67 71 rfl (by decide) (by omega) kt kf)
          case ht =>
            intro K
            refine x_ldcN (j := 1073741824) C dX3_settle_71 73 rfl q1560 (by decide) ?_
            exact K
          case hf =>
            intro K
            refine x_ic (j := 0) C dX3_settle_67 68 rfl ?_
            refine x_goto C dX3_settle_68 73 (by decide) ?_
            exact K
          refine x_iast C dX3_settle_73 74 rfl (twA_least hS) (twN_least hS) rfl (by omega) (by decide) ?_
          refine x_iinc C dX3_settle_74 77 rfl [_, _, _, _, _, _, _, _, _, _, _, _] (nI_inc _) (by decide) rfl rfl rfl ?_
          refine x_goto C dX3_settle_77 41 (by decide) ?_
          refine ih (s + 1) _ (by omega) (fun b i q1 q2 q3 q4 => by rw [sto_n _ _ _ q3]; exact hM b i q1 q2 q3 q4) (fun r' q => ⟨by rw [sto_n _ _ _ (by decide)]; exact (hma r' q).1, fun x q1 q2 => by rw [sto_n _ _ _ (by decide)]; exact (hma r' q).2 x q1 q2⟩) (fun s' hs' => ?_)
          rw [sto_at]
          by_cases e2 : s' = s
          · subst e2; rw [if_pos ⟨rfl, rfl⟩]; rfl
          · rw [if_neg (by omega)]; exact h0 s' (by omega)
      refine x_aloadr_n C dX3_settle_19 20 rfl rfl ?_
      refine x_iload_n C dX3_settle_20 21 rfl rfl ?_
      refine x_callV C lk_X3_227 dX3_settle_21 24 rfl [_] [] rfl rfl hS.1 (Nat.le_of_ble_eq_true rfl) (by decide) (Nat.le_refl _) (Nat.le_refl _) (kX3_findSets hS hI ht6' (hbe t ht)) ?_
      rintro _ _ M1 _ ⟨rfl, rfl, hs1, hma1, rfl⟩
      have hq1 : sq4 M1 I := fun b i q1 q2 _ _ => hs1 b i q1 q2
      refine x_aloadr_n C dX3_settle_24 25 rfl rfl ?_
      refine x_iload_n C dX3_settle_25 26 rfl rfl ?_
      refine x_callV C lk_X3_215 dX3_settle_26 29 rfl [_] [] rfl rfl hS.1 (Nat.le_of_ble_eq_true rfl) (by decide) (Nat.le_refl _) (Nat.le_refl _) (kX3_there hS ((hq1 473 1 (by decide) (by decide) (by decide) (by decide)).trans (tk_p hI)) hp10) ?_
      rintro _ _ _ _ ⟨rfl, rfl, rfl, rfl⟩
      rw [show (fun p => thB M1 p (nI t)) = (fun p => thB I p (nI t)) from funext fun p => thB_q (hs1.row (by decide) (by decide)) (hs1.row (by decide) (by decide)) (hs1.row (by decide) (by decide)) p _]
      refine x_istore_n C dX3_settle_29 30 rfl [_, _, _, _, _, _, _, _, _, _, _, _] (by decide) rfl rfl ?_
      refine x_aloadr_n C dX3_settle_30 31 rfl rfl ?_
      refine x_getr C fl_X3_51 (Or.inr ⟨_, rfl⟩) dX3_settle_31 34 rfl hS.1 (twR_rooms hS) ?_
      refine x_iload_n C dX3_settle_34 35 rfl rfl ?_
      refine x_iald C dX3_settle_35 36 rfl (twA_rooms hS) (twN_rooms hS) rfl (by omega) (by decide) ((hq1 485 t (by decide) (by decide) (by decide) (by decide)).trans (tk_r hI ht6')) ?_
      refine x_istore C dX3_settle_36 38 rfl [_, _, _, _, _, _, _, _, _, _, _, _] (by decide) rfl rfl ?_
      refine x_ic (j := 0) C dX3_settle_38 39 rfl ?_
      refine x_istore C dX3_settle_39 41 rfl [_, _, _, _, _, _, _, _, _, _, _, _] (by decide) rfl rfl ?_
      exact hA 1024 0 M1 rfl hq1 hma1 (fun s hs => by omega)
    · refine x_icm C dX3_settle_17 18 rfl ?_
      exact x_iret C dX3_settle_18 (Nat.le_refl _) (Nat.le_refl _) (Qg_of (A := I) (by simp [sp_settle, no1, h5, et, h14]) (gq_refl _) (jq_refl _))
end Tw22
