/-! the component: on to each sight -/
section
variable {wy op sh st : Nat → Int32} {N : Nat}
theorem hmT_p {n here : Nat} {ti sn dr re : Int32} {x : TS} : (hmT wy n here ti sn dr re x).2.2.2.2.2.2.1 = x.2.2.2.2.2.2.1 ∧ (hmT wy n here ti sn dr re x).2.2.2.2.2.2.2 = x.2.2.2.2.2.2.2 := by
  unfold hmT
  split <;> exact ⟨rfl, rfl⟩
def pfx (n : Nat) (x y : TS) : Prop := ∀ i, i < n → y.2.2.2.2.2.2.1 i = x.2.2.2.2.2.2.1 i ∧ y.2.2.2.2.2.2.2 i = x.2.2.2.2.2.2.2 i
theorem trL_pfx {step : Nat → TS → TS} {n : Nat} (h : ∀ s y, pfx n y (step s y)) : ∀ s x, pfx n x (trL step s x)
  | 0, _ => fun _ _ => ⟨rfl, rfl⟩
  | s + 1, x => fun i hi => ⟨((h (s + 1) _ i hi).1).trans (trL_pfx h s x i hi).1, ((h (s + 1) _ i hi).2).trans (trL_pfx h s x i hi).2⟩
theorem trG_pfx : ∀ (f n here seen : Nat) (ti sn dr re : Int32) (x : TS), pfx n x (trG wy op sh st N f n here seen ti sn dr re x)
  | 0, _, _, _, _, _, _, _, _ => fun _ _ => ⟨rfl, rfl⟩
  | f + 1, n, here, seen, ti, sn, dr, re, x => by
    rw [trG]
    intro i hi
    have h1 := trL_pfx (n := n) (step := fun s x => if trO op sh st s seen (wy (7 * here + s)) (enT ti sn (wy (7 * here + s))) dr then trG wy op sh st N f (n + 1) s (seen ||| 2 ^ s) (bgT op s (enT ti sn (wy (7 * here + s))) + st s) (snT sn (wy (7 * here + s)) (bgT op s (enT ti sn (wy (7 * here + s))) + st s) (enT ti sn (wy (7 * here + s)))) (dr + wy (7 * here + s)) (re + bz (rsB sn (wy (7 * here + s)))) (pth n s (bgT op s (enT ti sn (wy (7 * here + s)))) x) else x) (fun s y i hi => by
      show (if _ then _ else _ : TS).2.2.2.2.2.2.1 i = _ ∧ (if _ then _ else _ : TS).2.2.2.2.2.2.2 i = _
      split
      · obtain ⟨g1, g2⟩ := trG_pfx f (n + 1) s (seen ||| 2 ^ s) (bgT op s (enT ti sn (wy (7 * here + s))) + st s) (snT sn (wy (7 * here + s)) (bgT op s (enT ti sn (wy (7 * here + s))) + st s) (enT ti sn (wy (7 * here + s)))) (dr + wy (7 * here + s)) (re + bz (rsB sn (wy (7 * here + s)))) (pth n s (bgT op s (enT ti sn (wy (7 * here + s)))) y) i (by omega)
        rw [g1, g2]
        exact ⟨va_up_ne _ _ (by omega), va_up_ne _ _ (by omega)⟩
      · exact ⟨rfl, rfl⟩) N (hmT wy n here ti sn dr re x) i hi
    rw [hmT_p.1, hmT_p.2] at h1
    exact h1
theorem trS_pfx (f n here seen : Nat) (ti sn dr re : Int32) (x : TS) (s : Nat) : pfx n x (trL (fun s x => if trO op sh st s seen (wy (7 * here + s)) (enT ti sn (wy (7 * here + s))) dr then trG wy op sh st N f (n + 1) s (seen ||| 2 ^ s) (bgT op s (enT ti sn (wy (7 * here + s))) + st s) (snT sn (wy (7 * here + s)) (bgT op s (enT ti sn (wy (7 * here + s))) + st s) (enT ti sn (wy (7 * here + s)))) (dr + wy (7 * here + s)) (re + bz (rsB sn (wy (7 * here + s)))) (pth n s (bgT op s (enT ti sn (wy (7 * here + s)))) x) else x) s x) := by
  refine trL_pfx (fun s y i hi => ?_) s x
  show (if _ then _ else _ : TS).2.2.2.2.2.2.1 i = _ ∧ (if _ then _ else _ : TS).2.2.2.2.2.2.2 i = _
  split
  · obtain ⟨g1, g2⟩ := trG_pfx (wy := wy) (op := op) (sh := sh) (st := st) (N := N) f (n + 1) s (seen ||| 2 ^ s) (bgT op s (enT ti sn (wy (7 * here + s))) + st s) (snT sn (wy (7 * here + s)) (bgT op s (enT ti sn (wy (7 * here + s))) + st s) (enT ti sn (wy (7 * here + s)))) (dr + wy (7 * here + s)) (re + bz (rsB sn (wy (7 * here + s)))) (pth n s (bgT op s (enT ti sn (wy (7 * here + s)))) y) i (by omega)
    rw [g1, g2]
    exact ⟨va_up_ne _ _ (by omega), va_up_ne _ _ (by omega)⟩
  · exact ⟨rfl, rfl⟩
end
section Co21
variable {w : Wd} {l : Launch} {K : Ly} {S : Sh} {I T : Mi} {J : Ml}
theorem kX1_goes (hC : coS S) {wy op sh st : Nat → Int32} (hW : TrR I wy op sh st) {N : Nat} (hN : I 0 30 = nI N) (hN6 : N ≤ 6) : ∀ (f n here seen : Nat) (ti sn dr re : Int32) (x : TS), n + f = 7 → here ≤ 6 → seenN seen n → (∀ s, 1 ≤ s → s ≤ 6 → seen.testBit s = anyB (fun i => decide (x.2.2.2.2.2.2.1 i = nI s)) n) → (n = 0 → hmT wy n here ti sn dr re x = x) → Ct w l yX1_goes cX1_goes 14 none (f + 3) 0 0 [.ref 0, .int (nI n), .int (nI here), .int ti, .int dr, .int sn, .int re] S (cM I x) J (Qv (cM I (trG wy op sh st N f n here seen ti sn dr re x)) S J) := by
  intro f
  induction f with
  | zero => intro n here seen ti sn dr re x h1 h2 h3; have := h3.le; omega
  | succ f ih =>
    intro n here seen ti sn dr re x h1 h2 h3 hpa h0
    have hn6 := h3.le
    have hg := hC.2.2.2.2.2.2.2 here (by omega)
    refine Ct.of [some _, some _, some _, some _, some _, some _, some _, none, none, none, none, none, none, none] rfl (Nat.le_of_ble_eq_true rfl) (by decide) ?_
    intro κ hκ C
    subst hκ
    rw [trG]
    have hpf : ∀ s, pfx n x (trL (fun s x => if trO op sh st s seen (wy (7 * here + s)) (enT ti sn (wy (7 * here + s))) dr then trG wy op sh st N f (n + 1) s (seen ||| 2 ^ s) (bgT op s (enT ti sn (wy (7 * here + s))) + st s) (snT sn (wy (7 * here + s)) (bgT op s (enT ti sn (wy (7 * here + s))) + st s) (enT ti sn (wy (7 * here + s)))) (dr + wy (7 * here + s)) (re + bz (rsB sn (wy (7 * here + s)))) (pth n s (bgT op s (enT ti sn (wy (7 * here + s)))) x) else x) s (hmT wy n here ti sn dr re x)) := by
      intro s
      have h1 := trS_pfx (wy := wy) (op := op) (sh := sh) (st := st) (N := N) f n here seen ti sn dr re (hmT wy n here ti sn dr re x) s
      intro i hi
      have h2 := h1 i hi
      rw [hmT_p.1, hmT_p.2] at h2
      exact h2
    generalize hst : (fun s x => if trO op sh st s seen (wy (7 * here + s)) (enT ti sn (wy (7 * here + s))) dr then
      trG wy op sh st N f (n + 1) s (seen ||| 2 ^ s) (bgT op s (enT ti sn (wy (7 * here + s))) + st s) (snT sn (wy (7 * here + s)) (bgT op s (enT ti sn (wy (7 * here + s))) + st s) (enT ti sn (wy (7 * here + s)))) (dr + wy (7 * here + s)) (re + bz (rsB sn (wy (7 * here + s)))) (pth n s (bgT op s (enT ti sn (wy (7 * here + s)))) x)
      else x) = step at *
    have hl : ∀ (j s : Nat), s + j = N → XX w κ (Zr w κ (Qv (cM I (trL step N (hmT wy n here ti sn dr re x))) S J)) 0 0 20 [some (.ref 0), some (.int (nI n)), some (.int (nI here)), some (.int ti), some (.int dr), some (.int sn), some (.int re), some (.int (nI (s + 1))), none, none, none, none, none, none] [] S (cM I (trL step s (hmT wy n here ti sn dr re x))) J := by
      intro j
      induction j with
      | zero =>
        intro s hs
        have hs : N = s := Eq.symm hs
        subst hs
        refine x_iload C dX1_goes_20 22 rfl rfl ?_
        refine x_aloadr_n C dX1_goes_22 23 rfl rfl ?_
        refine x_geti C fl_X1_382 (Or.inl rfl) dX1_goes_23 26 rfl hC.1 ((cM_0 I _ (by decide)).trans hN) ?_
        refine x_icmpgtN C dX1_goes_26 29 271 rfl (by decide) (by omega) (by omega) (fun _ => ?_) (fun h26 => absurd h26 (by omega))
        exact x_vret C dX1_goes_271 (Nat.le_refl _) (Nat.le_refl _) (Qv_of rfl)
      | succ j ihs =>
        intro s hs
        have hpy := hpf s
        have hgo : trL step (s + 1) (hmT wy n here ti sn dr re x) = step (s + 1) (trL step s (hmT wy n here ti sn dr re x)) := rfl
        generalize hy : trL step s (hmT wy n here ti sn dr re x) = y at *
        have hany : seen.testBit (s + 1) = anyB (fun i => decide (y.2.2.2.2.2.2.1 i = nI (s + 1))) n := by
          rw [hpa (s + 1) (by omega) (by omega)]
          exact anyB_c (fun i hi => by rw [(hpy i hi).1])
        have h71 : XX w κ (Zr w κ (Qv (cM I (trL step N (hmT wy n here ti sn dr re x))) S J)) 0 0 71 [some (.ref 0), some (.int (nI n)), some (.int (nI here)), some (.int ti), some (.int dr), some (.int sn), some (.int re), some (.int (nI (s + 1))), some (.int (bz (seen.testBit (s + 1)))), none, none, none, none, none] [] S (cM I y) J := by
          refine x_aloadr_n C dX1_goes_71 72 rfl rfl ?_
          refine x_getr C fl_X1_87 (Or.inr ⟨_, rfl⟩) dX1_goes_72 75 rfl hC.1 (coR_ways hC) ?_
          refine x_iload_n C dX1_goes_75 76 rfl rfl ?_
          refine x_aaldr (t := 8) C dX1_goes_76 77 rfl (coA_ways hC) (by decide) (coN_ways hC) rfl (by omega) (by decide) hg.1 ?_
          refine x_iload C dX1_goes_77 79 rfl rfl ?_
          refine x_iald C dX1_goes_79 80 rfl hg.2.1 hg.2.2 rfl (by omega) (by decide) ((congrFun (cM_n I _ (by omega)) _).trans (hW.1 here (s + 1) (by omega) (by omega))) ?_
          refine x_istore C dX1_goes_80 82 rfl [_, _, _, _, _, _, _, _, _, _, _, _, _, _] (by decide) rfl rfl ?_
          generalize hm : wy (7 * here + (s + 1)) = m at *
          refine x_iload C dX1_goes_82 84 rfl rfl ?_
          refine x_ifneZ C dX1_goes_84 87 265 rfl (by decide) (fun h84 => ?_) (fun h84 => ?_)
          · have hsk : step (s + 1) y = y := by { rw [← hst]; show (if _ then _ else _) = _; rw [if_neg (by unfold trO; rw [h84]; simp)] }
            refine x_iinc C dX1_goes_265 268 rfl [_, _, _, _, _, _, _, _, _, _, _, _, _, _] (nI_inc _) (by decide) rfl rfl rfl ?_
            refine x_goto C dX1_goes_268 20 (by decide) ?_
            refine x_ls [some _, some _, some _, some _, some _, some _, some _, some _, none, none, none, none, none, none] ⟨rfl, rfl, rfl, rfl, rfl, rfl, rfl, rfl, trivial⟩ ?_
            refine x_eqI ?_ (ihs (s + 1) (by omega))
            rw [hgo, hsk]
          · refine x_iload C dX1_goes_87 89 rfl rfl ?_
            refine x_ifeq C dX1_goes_89 92 265 rfl (by decide) (fun h89 => ?_) (fun h89 => ?_)
            · have hsk : step (s + 1) y = y := by { rw [← hst]; show (if _ then _ else _) = _; rw [hm, if_neg (by unfold trO; simp [h89])] }
              refine x_iinc C dX1_goes_265 268 rfl [_, _, _, _, _, _, _, _, _, _, _, _, _, _] (nI_inc _) (by decide) rfl rfl rfl ?_
              refine x_goto C dX1_goes_268 20 (by decide) ?_
              refine x_ls [some _, some _, some _, some _, some _, some _, some _, some _, none, none, none, none, none, none] ⟨rfl, rfl, rfl, rfl, rfl, rfl, rfl, rfl, trivial⟩ ?_
              refine x_eqI ?_ (ihs (s + 1) (by omega))
              rw [hgo, hsk]
            · refine x_iload C dX1_goes_92 94 rfl rfl ?_
              refine x_iload C dX1_goes_94 96 rfl rfl ?_
              refine x_iadd C dX1_goes_96 97 rfl rfl ?_
              refine x_sip (j := 540) C dX1_goes_97 100 rfl (by decide) ?_
              refine x_icmple C dX1_goes_100 103 106 rfl (by decide) (fun h100 => ?_) (fun h100 => ?_)
              · refine x_iload C dX1_goes_106 108 rfl rfl ?_
                refine x_iload C dX1_goes_108 110 rfl rfl ?_
                refine x_iadd C dX1_goes_110 111 rfl rfl ?_
                refine x_sip (j := 270) C dX1_goes_111 114 rfl (by decide) ?_
                apply x_jNZ0 (pj := 122) (fun kt kf => x_icmple C dX1_goes_114 117 121 rfl (by decide) kt kf)
                case ht =>
                  intro K
                  refine x_ic (j := 0) C dX1_goes_121 122 rfl ?_
                  exact K
                case hf =>
                  intro K
                  refine x_ic (j := 1) C dX1_goes_117 118 rfl ?_
                  refine x_goto C dX1_goes_118 122 (by decide) ?_
                  exact K
                refine x_istore C dX1_goes_122 124 rfl [_, _, _, _, _, _, _, _, _, _, _, _, _, _] (by decide) rfl rfl ?_
                generalize hr : decide (nI 270 < sn + m) = rs at *
                refine x_iload_n C dX1_goes_124 125 rfl rfl ?_
                refine x_iload C dX1_goes_125 127 rfl rfl ?_
                refine x_iadd C dX1_goes_127 128 rfl rfl ?_
                refine x_iload C dX1_goes_128 130 rfl rfl ?_
                apply x_jNN (pj := 139) (fun kt kf => x_ifeqZ C dX1_goes_130 133 138 rfl (by decide) (fun h => kt (by simp [h])) kf)
                case ht =>
                  intro K
                  refine x_ic (j := 0) C dX1_goes_138 139 rfl ?_
                  exact K
                case hf =>
                  intro K
                  refine x_bip (j := 45) C dX1_goes_133 135 rfl (by decide) ?_
                  refine x_goto C dX1_goes_135 139 (by decide) ?_
                  exact K
                refine x_iadd C dX1_goes_139 140 rfl rfl ?_
                refine x_istore C dX1_goes_140 142 rfl [_, _, _, _, _, _, _, _, _, _, _, _, _, _] (by decide) rfl rfl ?_
                generalize hco : ti + m + nI (if rs = true then 45 else 0) = co at *
                have hco2 : enT ti sn m = co := by unfold enT rsB; rw [hr]; exact hco
                refine x_iload C dX1_goes_142 144 rfl rfl ?_
                refine x_aloadr_n C dX1_goes_144 145 rfl rfl ?_
                refine x_getr C fl_X1_78 (Or.inr ⟨_, rfl⟩) dX1_goes_145 148 rfl hC.1 (coR_opens hC) ?_
                refine x_iload C dX1_goes_148 150 rfl rfl ?_
                refine x_iald C dX1_goes_150 151 rfl (coA_opens hC) (coN_opens hC) rfl (by omega) (by decide) ((congrFun (cM_n I _ (by decide)) _).trans (hW.2 (s + 1) (by omega)).1) ?_
                refine x_mmax2 C q1070 q684 q685 dX1_goes_151 154 rfl (Nat.le_of_ble_eq_true rfl) (by omega) (Nat.zero_le _) (Nat.zero_le _) ?_
                refine x_istore C dX1_goes_154 156 rfl [_, _, _, _, _, _, _, _, _, _, _, _, _, _] (by decide) rfl rfl ?_
                generalize hbg : (if co < op (s + 1) then op (s + 1) else co) = bg at *
                have hbg2 : bgT op (s + 1) co = bg := hbg
                refine x_iload C dX1_goes_156 158 rfl rfl ?_
                refine x_aloadr_n C dX1_goes_158 159 rfl rfl ?_
                refine x_getr C fl_X1_84 (Or.inr ⟨_, rfl⟩) dX1_goes_159 162 rfl hC.1 (coR_stays hC) ?_
                refine x_iload C dX1_goes_162 164 rfl rfl ?_
                refine x_iald C dX1_goes_164 165 rfl (coA_stays hC) (coN_stays hC) rfl (by omega) (by decide) ((congrFun (cM_n I _ (by decide)) _).trans (hW.2 (s + 1) (by omega)).2.2) ?_
                refine x_iadd C dX1_goes_165 166 rfl rfl ?_
                refine x_aloadr_n C dX1_goes_166 167 rfl rfl ?_
                refine x_getr C fl_X1_81 (Or.inr ⟨_, rfl⟩) dX1_goes_167 170 rfl hC.1 (coR_shuts hC) ?_
                refine x_iload C dX1_goes_170 172 rfl rfl ?_
                refine x_iald C dX1_goes_172 173 rfl (coA_shuts hC) (coN_shuts hC) rfl (by omega) (by decide) ((congrFun (cM_n I _ (by decide)) _).trans (hW.2 (s + 1) (by omega)).2.1) ?_
                refine x_icmple C dX1_goes_173 176 179 rfl (by decide) (fun h173 => ?_) (fun h173 => ?_)
                · have hsk : step (s + 1) y = trG wy op sh st N f (n + 1) (s + 1) (seen ||| 2 ^ (s + 1)) (bg + st (s + 1)) (snT sn m (bg + st (s + 1)) co) (dr + m) (re + bz rs) (pth n (s + 1) bg y) := by
                    rw [← hst]
                    show (if _ then _ else _) = _
                    rw [hm, hco2, hbg2, show rsB sn m = rs from hr, if_pos (by unfold trO; rw [hbg2]; simp [h84, h89, h100, h173])]
                  have hadd := h3.add (s := s + 1) (by omega) (by omega) h84
                  have hn7 := hadd.le
                  have hpa2 : ∀ k, 1 ≤ k → k ≤ 6 → (seen ||| 2 ^ (s + 1)).testBit k = anyB (fun i => decide ((pth n (s + 1) bg y).2.2.2.2.2.2.1 i = nI k)) (n + 1) := by
                    intro k k1 k6
                    rw [Nat.testBit_or, Nat.testBit_two_pow, anyB, hpa k k1 k6]
                    congr 1
                    · refine anyB_c (fun i hi => ?_)
                      show _ = decide (va_up y.2.2.2.2.2.2.1 n (nI (s + 1)) i = nI k)
                      rw [va_up_ne _ _ (by omega), (hpy i hi).1]
                    · show _ = decide (va_up y.2.2.2.2.2.2.1 n (nI (s + 1)) n = nI k)
                      rw [va_up_self, decide_eq_decide.mpr (nI_eq (by omega) (by omega))]
                  obtain ⟨y1, y2, y3, y4, y5, y6, y7, y8⟩ := y
                  refine x_iload C dX1_goes_179 181 rfl rfl ?_
                  refine x_aloadr_n C dX1_goes_181 182 rfl rfl ?_
                  refine x_getr C fl_X1_84 (Or.inr ⟨_, rfl⟩) dX1_goes_182 185 rfl hC.1 (coR_stays hC) ?_
                  refine x_iload C dX1_goes_185 187 rfl rfl ?_
                  refine x_iald C dX1_goes_187 188 rfl (coA_stays hC) (coN_stays hC) rfl (by omega) (by decide) ((congrFun (cM_n I _ (by decide)) _).trans (hW.2 (s + 1) (by omega)).2.2) ?_
                  refine x_iadd C dX1_goes_188 189 rfl rfl ?_
                  refine x_istore C dX1_goes_189 191 rfl [_, _, _, _, _, _, _, _, _, _, _, _, _, _] (by decide) rfl rfl ?_
                  refine x_aloadr_n C dX1_goes_191 192 rfl rfl ?_
                  refine x_getr C fl_X1_90 (Or.inr ⟨_, rfl⟩) dX1_goes_192 195 rfl hC.1 (coR_tried hC) ?_
                  refine x_iload_n C dX1_goes_195 196 rfl rfl ?_
                  refine x_iload C dX1_goes_196 198 rfl rfl ?_
                  refine x_iast C dX1_goes_198 199 rfl (coA_tried hC) (coN_tried hC) rfl (by omega) (by decide) ?_
                  refine x_eqI (c469 _ _ _ _ _ _ _ _ _ _ _) ?_
                  refine x_aloadr_n C dX1_goes_199 200 rfl rfl ?_
                  refine x_getr C fl_X1_93 (Or.inr ⟨_, rfl⟩) dX1_goes_200 203 rfl hC.1 (coR_begun hC) ?_
                  refine x_iload_n C dX1_goes_203 204 rfl rfl ?_
                  refine x_iload C dX1_goes_204 206 rfl rfl ?_
                  refine x_iast C dX1_goes_206 207 rfl (coA_begun hC) (coN_begun hC) rfl (by omega) (by decide) ?_
                  refine x_eqI (c470 _ _ _ _ _ _ _ _ _ _ _) ?_
                  refine x_aloadr_n C dX1_goes_207 208 rfl rfl ?_
                  refine x_iload_n C dX1_goes_208 209 rfl rfl ?_
                  refine x_ic (j := 1) C dX1_goes_209 210 rfl ?_
                  refine x_iadd C dX1_goes_210 211 rfl (nI_add _ _) ?_
                  refine x_iload C dX1_goes_211 213 rfl rfl ?_
                  refine x_iload C dX1_goes_213 215 rfl rfl ?_
                  refine x_iload C dX1_goes_215 217 rfl rfl ?_
                  refine x_iload C dX1_goes_217 219 rfl rfl ?_
                  refine x_iadd C dX1_goes_219 220 rfl rfl ?_
                  refine x_iload C dX1_goes_220 222 rfl rfl ?_
                  refine x_iload C dX1_goes_222 224 rfl rfl ?_
                  refine x_isub C dX1_goes_224 225 rfl rfl ?_
                  refine x_bip (j := 45) C dX1_goes_225 227 rfl (by decide) ?_
                  refine x_icmplt C dX1_goes_227 230 234 rfl (by decide) (fun h227 => ?_) (fun h227 => ?_)
                  · refine x_iload C dX1_goes_234 236 rfl rfl ?_
                    apply x_jN (pj := 249) (fun kt kf => x_ifeqZ C dX1_goes_236 239 244 rfl (by decide) (fun h => kt (by simp [h])) kf)
                    case ht =>
                      intro K
                      refine x_iload C dX1_goes_244 246 rfl rfl ?_
                      refine x_iload C dX1_goes_246 248 rfl rfl ?_
                      refine x_iadd C dX1_goes_248 249 rfl rfl ?_
                      exact K
                    case hf =>
                      intro K
                      refine x_iload C dX1_goes_239 241 rfl rfl ?_
                      refine x_goto C dX1_goes_241 249 (by decide) ?_
                      exact K
                    refine x_iload C dX1_goes_249 251 rfl rfl ?_
                    refine x_iload C dX1_goes_251 253 rfl rfl ?_
                    apply x_jb (pj := 261) (fun kt kf => x_ifeqZ C dX1_goes_253 256 260 rfl (by decide) kt kf)
                    case ht =>
                      intro K
                      refine x_ic (j := 0) C dX1_goes_260 261 rfl ?_
                      exact K
                    case hf =>
                      intro K
                      refine x_ic (j := 1) C dX1_goes_256 257 rfl ?_
                      refine x_goto C dX1_goes_257 261 (by decide) ?_
                      exact K
                    refine x_iadd C dX1_goes_261 262 rfl rfl ?_
                    refine x_callV C lk_X1_395 dX1_goes_262 265 rfl [_, _, _, _, _, _] [] rfl rfl hC.1 (Nat.le_of_ble_eq_true rfl) (by omega) (Nat.le_refl _) (Nat.le_refl _) (ih (n + 1) (s + 1) (seen ||| 2 ^ (s + 1)) _ _ _ _ _ (by omega) (by omega) hadd hpa2 (fun q => by omega)) ?_
                    rintro _ _ _ _ ⟨rfl, rfl, rfl, rfl⟩
                    refine x_iinc C dX1_goes_265 268 rfl [_, _, _, _, _, _, _, _, _, _, _, _, _, _] (nI_inc _) (by decide) rfl rfl rfl ?_
                    refine x_goto C dX1_goes_268 20 (by decide) ?_
                    refine x_ls [some _, some _, some _, some _, some _, some _, some _, some _, none, none, none, none, none, none] ⟨rfl, rfl, rfl, rfl, rfl, rfl, rfl, rfl, trivial⟩ ?_
                    refine x_eqI ?_ (ihs (s + 1) (by omega))
                    rw [hgo, hsk]
                    unfold snT pth
                    rw [show rsB sn m = rs from hr]
                    simp [h84, h89, h100, h173, h227]
                  · refine x_ic (j := 0) C dX1_goes_230 231 rfl ?_
                    refine x_goto C dX1_goes_231 249 (by decide) ?_
                    refine x_iload C dX1_goes_249 251 rfl rfl ?_
                    refine x_iload C dX1_goes_251 253 rfl rfl ?_
                    apply x_jb (pj := 261) (fun kt kf => x_ifeqZ C dX1_goes_253 256 260 rfl (by decide) kt kf)
                    case ht =>
                      intro K
                      refine x_ic (j := 0) C dX1_goes_260 261 rfl ?_
                      exact K
                    case hf =>
                      intro K
                      refine x_ic (j := 1) C dX1_goes_256 257 rfl ?_
                      refine x_goto C dX1_goes_257 261 (by decide) ?_
                      exact K
                    refine x_iadd C dX1_goes_261 262 rfl rfl ?_
                    refine x_callV C lk_X1_395 dX1_goes_262 265 rfl [_, _, _, _, _, _] [] rfl rfl hC.1 (Nat.le_of_ble_eq_true rfl) (by omega) (Nat.le_refl _) (Nat.le_refl _) (ih (n + 1) (s + 1) (seen ||| 2 ^ (s + 1)) _ _ _ _ _ (by omega) (by omega) hadd hpa2 (fun q => by omega)) ?_
                    rintro _ _ _ _ ⟨rfl, rfl, rfl, rfl⟩
                    refine x_iinc C dX1_goes_265 268 rfl [_, _, _, _, _, _, _, _, _, _, _, _, _, _] (nI_inc _) (by decide) rfl rfl rfl ?_
                    refine x_goto C dX1_goes_268 20 (by decide) ?_
                    refine x_ls [some _, some _, some _, some _, some _, some _, some _, some _, none, none, none, none, none, none] ⟨rfl, rfl, rfl, rfl, rfl, rfl, rfl, rfl, trivial⟩ ?_
                    refine x_eqI ?_ (ihs (s + 1) (by omega))
                    rw [hgo, hsk]
                    unfold snT pth
                    rw [show rsB sn m = rs from hr]
                    simp [h84, h89, h100, h173, h227]
                · have hsk : step (s + 1) y = y := by { rw [← hst]; show (if _ then _ else _) = _; rw [hm, hco2, if_neg (by unfold trO; rw [hbg2]; simp [h173])] }
                  refine x_goto C dX1_goes_176 265 (by decide) ?_
                  refine x_iinc C dX1_goes_265 268 rfl [_, _, _, _, _, _, _, _, _, _, _, _, _, _] (nI_inc _) (by decide) rfl rfl rfl ?_
                  refine x_goto C dX1_goes_268 20 (by decide) ?_
                  refine x_ls [some _, some _, some _, some _, some _, some _, some _, some _, none, none, none, none, none, none] ⟨rfl, rfl, rfl, rfl, rfl, rfl, rfl, rfl, trivial⟩ ?_
                  refine x_eqI ?_ (ihs (s + 1) (by omega))
                  rw [hgo, hsk]
              · have hsk : step (s + 1) y = y := by { rw [← hst]; show (if _ then _ else _) = _; rw [hm, if_neg (by unfold trO; simp [h100])] }
                refine x_goto C dX1_goes_103 265 (by decide) ?_
                refine x_iinc C dX1_goes_265 268 rfl [_, _, _, _, _, _, _, _, _, _, _, _, _, _] (nI_inc _) (by decide) rfl rfl rfl ?_
                refine x_goto C dX1_goes_268 20 (by decide) ?_
                refine x_ls [some _, some _, some _, some _, some _, some _, some _, some _, none, none, none, none, none, none] ⟨rfl, rfl, rfl, rfl, rfl, rfl, rfl, rfl, trivial⟩ ?_
                refine x_eqI ?_ (ihs (s + 1) (by omega))
                rw [hgo, hsk]
        have hw : ∀ (j i : Nat) (b : Bool), i + j = n → b = anyB (fun i => decide (y.2.2.2.2.2.2.1 i = nI (s + 1))) i → XX w κ (Zr w κ (Qv (cM I (trL step N (hmT wy n here ti sn dr re x))) S J)) 0 0 35 [some (.ref 0), some (.int (nI n)), some (.int (nI here)), some (.int ti), some (.int dr), some (.int sn), some (.int re), some (.int (nI (s + 1))), some (.int (bz b)), some (.int (nI i)), none, none, none, none] [] S (cM I y) J := by
          intro j
          induction j with
          | zero =>
            intro i b hi hb
            have hi : n = i := Eq.symm hi
            subst hi
            rw [← hany] at hb
            refine x_iload C dX1_goes_35 37 rfl rfl ?_
            refine x_iload_n C dX1_goes_37 38 rfl rfl ?_
            refine x_icmpgeN C dX1_goes_38 41 71 rfl (by decide) (by omega) (by omega) (fun _ => ?_) (fun h38 => absurd h38 (by omega))
            refine x_ls [some _, some _, some _, some _, some _, some _, some _, some _, some _, none, none, none, none, none] ⟨rfl, rfl, rfl, rfl, rfl, rfl, rfl, rfl, rfl, trivial⟩ ?_
            rw [hb]
            exact h71
          | succ j ihw =>
            intro i b hi hb
            refine x_iload C dX1_goes_35 37 rfl rfl ?_
            refine x_iload_n C dX1_goes_37 38 rfl rfl ?_
            refine x_icmpgeN C dX1_goes_38 41 71 rfl (by decide) (by omega) (by omega) (fun h38 => absurd h38 (by omega)) (fun _ => ?_)
            refine x_iload C dX1_goes_41 43 rfl rfl ?_
            refine x_ifneZ C dX1_goes_43 46 58 rfl (by decide) (fun h43 => ?_) (fun h43 => ?_)
            · refine x_ic (j := 1) C dX1_goes_58 59 rfl ?_
              refine x_goto C dX1_goes_59 63 (by decide) ?_
              refine x_istore C dX1_goes_63 65 rfl [_, _, _, _, _, _, _, _, _, _, _, _, _, _] (by decide) rfl rfl ?_
              refine x_iinc C dX1_goes_65 68 rfl [_, _, _, _, _, _, _, _, _, _, _, _, _, _] (nI_inc _) (by decide) rfl rfl rfl ?_
              refine x_goto C dX1_goes_68 35 (by decide) ?_
              first
                | exact ihw (i + 1) true (by omega) (by rw [anyB, ← hb, h43]; rfl)
                | exact ihw (i + 1) true (by omega) (by rw [anyB, decide_eq_true h55, Bool.or_true])
                | exact ihw (i + 1) false (by omega) (by rw [anyB, ← hb, h43, decide_eq_false h55]; rfl)
            · refine x_aloadr_n C dX1_goes_46 47 rfl rfl ?_
              refine x_getr C fl_X1_90 (Or.inr ⟨_, rfl⟩) dX1_goes_47 50 rfl hC.1 (coR_tried hC) ?_
              refine x_iload C dX1_goes_50 52 rfl rfl ?_
              refine x_iald C dX1_goes_52 53 rfl (coA_tried hC) (coN_tried hC) rfl (by omega) (by decide) (show cM I y 469 i = y.2.2.2.2.2.2.1 i from rfl) ?_
              refine x_iload C dX1_goes_53 55 rfl rfl ?_
              refine x_icmpne C dX1_goes_55 58 62 rfl (by decide) (fun h55 => ?_) (fun h55 => ?_)
              · refine x_ic (j := 0) C dX1_goes_62 63 rfl ?_
                refine x_istore C dX1_goes_63 65 rfl [_, _, _, _, _, _, _, _, _, _, _, _, _, _] (by decide) rfl rfl ?_
                refine x_iinc C dX1_goes_65 68 rfl [_, _, _, _, _, _, _, _, _, _, _, _, _, _] (nI_inc _) (by decide) rfl rfl rfl ?_
                refine x_goto C dX1_goes_68 35 (by decide) ?_
                first
                  | exact ihw (i + 1) true (by omega) (by rw [anyB, ← hb, h43]; rfl)
                  | exact ihw (i + 1) true (by omega) (by rw [anyB, decide_eq_true h55, Bool.or_true])
                  | exact ihw (i + 1) false (by omega) (by rw [anyB, ← hb, h43, decide_eq_false h55]; rfl)
              · refine x_ic (j := 1) C dX1_goes_58 59 rfl ?_
                refine x_goto C dX1_goes_59 63 (by decide) ?_
                refine x_istore C dX1_goes_63 65 rfl [_, _, _, _, _, _, _, _, _, _, _, _, _, _] (by decide) rfl rfl ?_
                refine x_iinc C dX1_goes_65 68 rfl [_, _, _, _, _, _, _, _, _, _, _, _, _, _] (nI_inc _) (by decide) rfl rfl rfl ?_
                refine x_goto C dX1_goes_68 35 (by decide) ?_
                first
                  | exact ihw (i + 1) true (by omega) (by rw [anyB, ← hb, h43]; rfl)
                  | exact ihw (i + 1) true (by omega) (by rw [anyB, decide_eq_true h55, Bool.or_true])
                  | exact ihw (i + 1) false (by omega) (by rw [anyB, ← hb, h43, decide_eq_false h55]; rfl)
        refine x_iload C dX1_goes_20 22 rfl rfl ?_
        refine x_aloadr_n C dX1_goes_22 23 rfl rfl ?_
        refine x_geti C fl_X1_382 (Or.inl rfl) dX1_goes_23 26 rfl hC.1 ((cM_0 I _ (by decide)).trans hN) ?_
        refine x_icmpgtN C dX1_goes_26 29 271 rfl (by decide) (by omega) (by omega) (fun h26 => absurd h26 (by omega)) (fun _ => ?_)
        refine x_ic (j := 0) C dX1_goes_29 30 rfl ?_
        refine x_istore C dX1_goes_30 32 rfl [_, _, _, _, _, _, _, _, _, _, _, _, _, _] (by decide) rfl rfl ?_
        refine x_ic (j := 0) C dX1_goes_32 33 rfl ?_
        refine x_istore C dX1_goes_33 35 rfl [_, _, _, _, _, _, _, _, _, _, _, _, _, _] (by decide) rfl rfl ?_
        exact hw n 0 false (Nat.zero_add _) rfl
    refine x_iload_n C dX1_goes_0 1 rfl rfl ?_
    refine x_ifleN C dX1_goes_1 4 17 rfl (by decide) (by omega) (fun h1 => ?_) (fun h1 => ?_)
    · have hx0 := h0 (by omega)
      refine x_ic (j := 1) C dX1_goes_17 18 rfl ?_
      refine x_istore C dX1_goes_18 20 rfl [_, _, _, _, _, _, _, _, _, _, _, _, _, _] (by decide) rfl rfl ?_
      first
        | exact hl N 0 (Nat.zero_add _)
        | exact x_eqI (congrArg (cM I) hx0.symm) (hl N 0 (Nat.zero_add _))
    · refine x_aloadr_n C dX1_goes_4 5 rfl rfl ?_
      refine x_iload_n C dX1_goes_5 6 rfl rfl ?_
      refine x_iload_n C dX1_goes_6 7 rfl rfl ?_
      refine x_iload_n C dX1_goes_7 8 rfl rfl ?_
      refine x_iload C dX1_goes_8 10 rfl rfl ?_
      refine x_iload C dX1_goes_10 12 rfl rfl ?_
      refine x_iload C dX1_goes_12 14 rfl rfl ?_
      refine x_callV C lk_X1_391 dX1_goes_14 17 rfl [_, _, _, _, _, _] [] rfl rfl hC.1 (Nat.le_of_ble_eq_true rfl) (by omega) (Nat.le_refl _) (Nat.le_refl _) (kX1_home hC hW (by omega) hn6 h2) ?_
      rintro _ _ _ _ ⟨rfl, rfl, rfl, rfl⟩
      refine x_ic (j := 1) C dX1_goes_17 18 rfl ?_
      refine x_istore C dX1_goes_18 20 rfl [_, _, _, _, _, _, _, _, _, _, _, _, _, _] (by decide) rfl rfl ?_
      first
        | exact hl N 0 (Nat.zero_add _)
        | exact x_eqI (congrArg (cM I) hx0.symm) (hl N 0 (Nat.zero_add _))
end Co21
/-! two trips that know the same -/
def tsR (n : Nat) (x y : TS) : Prop := x.1 = y.1 ∧ x.2.1 = y.2.1 ∧ x.2.2.1 = y.2.2.1 ∧ x.2.2.2.1 = y.2.2.2.1 ∧ (∀ i, i < 6 → x.2.2.2.2.1 i = y.2.2.2.2.1 i ∧ x.2.2.2.2.2.1 i = y.2.2.2.2.2.1 i) ∧ ∀ i, i < n → x.2.2.2.2.2.2.1 i = y.2.2.2.2.2.2.1 i ∧ x.2.2.2.2.2.2.2 i = y.2.2.2.2.2.2.2 i
section
variable {wy op sh st : Nat → Int32} {N : Nat}
theorem hmT_r {n here : Nat} {ti sn dr re : Int32} {x y : TS} (h : tsR n x y) : tsR n (hmT wy n here ti sn dr re x) (hmT wy n here ti sn dr re y) := by
  obtain ⟨h1, h2, h3, h4, h5, h6⟩ := h
  have hok : okH n (hmM wy n here) (enT ti sn (hmM wy n here)) dr x = okH n (hmM wy n here) (enT ti sn (hmM wy n here)) dr y := by
    unfold okH
    rw [h1, h2, h3]
  unfold hmT
  rw [hok]
  split
  · refine ⟨rfl, rfl, rfl, rfl, fun i hi => ?_, h6⟩
    show cpf _ _ n i = cpf _ _ n i ∧ cpf _ _ n i = cpf _ _ n i
    unfold cpf
    by_cases hn : i < n
    · simp only [if_pos hn]
      exact h6 i hn
    · simp only [if_neg hn]
      exact h5 i hi
  · exact ⟨h1, h2, h3, h4, h5, h6⟩
theorem trL_r {step : Nat → TS → TS} {n : Nat} (h : ∀ s x y, tsR n x y → tsR n (step s x) (step s y)) : ∀ s x y, tsR n x y → tsR n (trL step s x) (trL step s y)
  | 0, _, _, q => q
  | s + 1, x, y, q => h (s + 1) _ _ (trL_r h s x y q)
theorem trG_r : ∀ (f n here seen : Nat) (ti sn dr re : Int32) (x y : TS), tsR n x y → tsR n (trG wy op sh st N f n here seen ti sn dr re x) (trG wy op sh st N f n here seen ti sn dr re y)
  | 0, _, _, _, _, _, _, _, _, _, q => q
  | f + 1, n, here, seen, ti, sn, dr, re, x, y, q => by
    rw [trG, trG]
    refine trL_r (fun s x y q => ?_) _ _ _ (hmT_r q)
    show tsR n (if _ then _ else _) (if _ then _ else _)
    split
    · have hp : tsR (n + 1) (pth n s (bgT op s (enT ti sn (wy (7 * here + s)))) x) (pth n s (bgT op s (enT ti sn (wy (7 * here + s)))) y) := by
        obtain ⟨h1, h2, h3, h4, h5, h6⟩ := q
        refine ⟨h1, h2, h3, h4, h5, fun i hi => ?_⟩
        show va_up _ n _ i = va_up _ n _ i ∧ va_up _ n _ i = va_up _ n _ i
        by_cases e : i = n
        · subst e
          rw [va_up_self, va_up_self, va_up_self, va_up_self]
          exact ⟨rfl, rfl⟩
        · rw [va_up_ne _ _ e, va_up_ne _ _ e, va_up_ne _ _ e, va_up_ne _ _ e]
          exact h6 i (by omega)
      obtain ⟨h1, h2, h3, h4, h5, h6⟩ := trG_r f (n + 1) s (seen ||| 2 ^ s) (bgT op s (enT ti sn (wy (7 * here + s))) + st s) (snT sn (wy (7 * here + s)) (bgT op s (enT ti sn (wy (7 * here + s))) + st s) (enT ti sn (wy (7 * here + s)))) (dr + wy (7 * here + s)) (re + bz (rsB sn (wy (7 * here + s)))) _ _ hp
      exact ⟨h1, h2, h3, h4, h5, fun i hi => h6 i (by omega)⟩
    · exact q
end
section Co21
variable {w : Wd} {l : Launch} {K : Ly} {S : Sh} {I T : Mi} {J : Ml}
theorem CoR_trip (h : CoR K S I T) {x y : TS} (hx : tsR 0 x y) : CoR K S (cM I x) (trM (sto T 473 70 (nI 1)) y) := by
  have hC := cr_S h
  have ht : ∀ b, b ≠ 473 ∧ b ≠ 514 ∧ b ≠ 515 ∧ b ≠ 516 ∧ b ≠ 517 → trM (sto T 473 70 (nI 1)) y b = T b := fun b hb => by rw [trM_n _ _ hb, sto_n _ _ _ hb.1]
  have t0 : ∀ i, ¬ (70 ≤ i ∧ i ≤ 74) → trM (sto T 473 70 (nI 1)) y 473 i = T 473 i := fun i hi => by rw [trM_s _ _ (by omega), sto_kn _ _ _ _ (by omega)]
  have e70 : trM (sto T 473 70 (nI 1)) y 473 70 = nI 1 := by rw [trM_s _ _ (by omega), sto_ss]
  obtain ⟨h1, h2, h3, h4, h5, -⟩ := hx
  refine CoR_fx h (fun a ha => cM_n _ _ (by omega)) (fun a ha => cM_n _ _ ⟨fun e => ?_, fun e => ?_, fun e => ?_, fun e => ?_, fun e => ?_⟩) (fun b hb => ht b ⟨ht_mem hb (by decide), ht_mem hb (by decide), ht_mem hb (by decide), ht_mem hb (by decide), ht_mem hb (by decide)⟩) (t0 _ (by decide)) (t0 _ (by decide)) ?_ (coNo_k (cr_no h) ⟨cM_n _ _ (by decide), cM_n _ _ (by decide), cM_n _ _ (by decide), cM_n _ _ (by decide)⟩ (by show nt _ = nt _; rw [t0 _ (by decide)]) ⟨ht _ (by decide), ht _ (by decide), ht _ (by decide)⟩) (coTp_k (cr_tp h) (cM_n _ _ (by decide)) (by show nt _ = nt _; rw [t0 _ (by decide)]) (ht _ (by decide))) (coBk_k (cr_bk h) (fun a q1 q2 => cM_n _ _ (by omega)) ⟨ht _ (by decide), ht _ (by decide), ht _ (by decide)⟩) ?_
  · rw [e, hC.1] at ha; exact ni_0 ha
  · rw [e, coA_tried hC] at ha; exact ni_100 ha
  · rw [e, coA_begun hC] at ha; exact ni_100 ha
  · rw [e, coA_bestSights hC] at ha; exact ni_100 ha
  · rw [e, coA_bestBegun hC] at ha; exact ni_100 ha
  · obtain ⟨g1, g2, g3, g4, g5, g6, g7, g8, g9, g10, g11, g12, g13, g14, g15, g16⟩ := h.2.1
    unfold coSc
    rw [cM_0 _ _ (by decide), cM_0 _ _ (by decide), cM_0 _ _ (by decide), cM_0 _ _ (by decide), cM_0 _ _ (by decide), cM_0 _ _ (by decide), cM_0 _ _ (by decide), cM_0 _ _ (by decide), cM_0 _ _ (by decide), cM_0 _ _ (by decide), cM_0 _ _ (by decide), cM_0 _ _ (by decide), t0 1 (by decide), t0 11 (by decide), t0 12 (by decide), t0 13 (by decide), t0 14 (by decide), t0 15 (by decide), t0 16 (by decide), t0 17 (by decide), t0 26 (by decide), t0 37 (by decide), t0 41 (by decide), t0 63 (by decide), e70]
    exact ⟨g1, g2, g3, g4, g5, g6, g7, g8, g9, g10, g11, g12, by rw [if_neg (by decide)]; exact h1, h2, h3, h4⟩
  · refine ⟨fun i q => ?_, fun i j q1 q2 => ?_, fun i q => h5 i q⟩
    · rw [cM_n _ _ (by decide), cM_n _ _ (by decide), cM_n _ _ (by decide), ht 510 (by decide), ht 511 (by decide), ht 512 (by decide)]
      exact (cr_tr h).1 i q
    · rw [cM_n _ _ (by omega), ht 513 (by decide)]
      exact (cr_tr h).2.1 i j q1 q2
theorem kX1_trip (hR : CoR K S I T) (hI : Tok T) {mi : Int32} : Ct w l yX1_trip cX1_trip 2 (some .int) 11 0 0 [.ref 0, .int mi] S I J (Qp (sp_trip T mi) S I J 0) := by
  refine Ct.of [some _, some _] rfl (Nat.le_of_ble_eq_true rfl) (by decide) ?_
  intro κ hκ C
  subst hκ
  have hC := cr_S hR
  have hp10 := tk_p2 hI
  have ht6 := tk_t2 hI
  have hg30 := tk_g2 hI
  have hc30 := tk_c2 hI
  have hn500 := tk_n2 hI
  have hx0 : ∀ (e f g h : Nat → Int32), okH 0 (hmM (T 513) 0 0) (enT mi (nI 0) (hmM (T 513) 0 0)) (nI 0) (nI 0, mi, nI 0, nI 0, e, f, g, h) = false := by
    intro e f g h
    have e1 : enT mi (nI 0) (nI 0) = mi := by
      show mi + 0 + 0 = mi
      rw [Int32.add_zero, Int32.add_zero]
    have e2 : hmM (T 513) 0 0 = nI 0 := rfl
    rw [e2, e1]
    unfold okH
    have e3 : nI 0 + nI 0 = nI 0 := rfl
    rw [e3]
    simp [Int32.lt_irrefl]
  have hW : TrR I (T 513) (T 510) (T 511) (T 512) := ⟨(cr_tr hR).2.1, (cr_tr hR).1⟩
  have hN : I 0 30 = nI (sN T) := (cs_sightMany hR).trans (tk_s hI)
  refine x_iload_n C dX1_trip_0 1 rfl rfl ?_
  refine x_ic (j := 0) C dX1_trip_1 2 rfl ?_
  refine x_sip (j := 1440) C dX1_trip_2 5 rfl (by decide) ?_
  refine x_callS C lk_X1_108 dX1_trip_5 8 rfl [_, _, _] [] rfl rfl (Nat.le_of_ble_eq_true rfl) (by decide) (Nat.le_refl _) (Nat.le_refl _) kX1_in ?_
  rintro _ _ _ _ ⟨rfl, rfl, rfl, rfl⟩
  refine x_ifneZ C dX1_trip_8 11 13 rfl (by decide) (fun h8 => ?_) (fun h8 => ?_)
  · refine x_eqI (cM_self _).symm ?_
    have hr := trG_r (wy := T 513) (op := T 510) (sh := T 511) (st := T 512) (N := sN T) 7 0 0 0 mi (nI 0) (nI 0) (nI 0) (nI 0, mi, nI 0, nI 0, I 471, I 472, I 469, I 470) (nI 0, mi, nI 0, nI 0, T 516, T 517, T 514, T 515) ⟨rfl, rfl, rfl, rfl, fun i hi => (cr_tr hR).2.2 i hi, fun i hi => absurd hi (Nat.not_lt_zero _)⟩
    refine x_aloadr_n C dX1_trip_13 14 rfl rfl ?_
    refine x_ic (j := 0) C dX1_trip_14 15 rfl ?_
    refine x_puti C fl_X1_102 (Or.inl rfl) (Or.inl rfl) dX1_trip_15 18 rfl hC.1 ?_
    refine x_eqI (c35 _ _ _ _ _ _ _ _ _ _) ?_
    refine x_aloadr_n C dX1_trip_18 19 rfl rfl ?_
    refine x_iload_n C dX1_trip_19 20 rfl rfl ?_
    refine x_puti C fl_X1_385 (Or.inl rfl) (Or.inl rfl) dX1_trip_20 23 rfl hC.1 ?_
    refine x_eqI (c36 _ _ _ _ _ _ _ _ _ _) ?_
    refine x_aloadr_n C dX1_trip_23 24 rfl rfl ?_
    refine x_ic (j := 0) C dX1_trip_24 25 rfl ?_
    refine x_puti C fl_X1_388 (Or.inl rfl) (Or.inl rfl) dX1_trip_25 28 rfl hC.1 ?_
    refine x_eqI (c37 _ _ _ _ _ _ _ _ _ _) ?_
    refine x_aloadr_n C dX1_trip_28 29 rfl rfl ?_
    refine x_ic (j := 0) C dX1_trip_29 30 rfl ?_
    refine x_puti C fl_X1_401 (Or.inl rfl) (Or.inl rfl) dX1_trip_30 33 rfl hC.1 ?_
    refine x_eqI (c38 _ _ _ _ _ _ _ _ _ _) ?_
    refine x_aloadr_n C dX1_trip_33 34 rfl rfl ?_
    refine x_ic (j := 0) C dX1_trip_34 35 rfl ?_
    refine x_ic (j := 0) C dX1_trip_35 36 rfl ?_
    refine x_iload_n C dX1_trip_36 37 rfl rfl ?_
    refine x_ic (j := 0) C dX1_trip_37 38 rfl ?_
    refine x_ic (j := 0) C dX1_trip_38 39 rfl ?_
    refine x_ic (j := 0) C dX1_trip_39 40 rfl ?_
    refine x_callV C lk_X1_395 dX1_trip_40 43 rfl [_, _, _, _, _, _] [] rfl rfl hC.1 (Nat.le_of_ble_eq_true rfl) (by decide) (Nat.le_refl _) (Nat.le_refl _) (kX1_goes hC hW hN (tk_s2 hI) 7 0 0 0 mi (nI 0) (nI 0) (nI 0) _ rfl (by decide) ⟨by decide, rfl⟩ (fun s _ _ => Nat.zero_testBit s) (fun _ => by unfold hmT; rw [if_neg (by rw [hx0]; simp)])) ?_
    rintro _ _ _ _ ⟨rfl, rfl, rfl, rfl⟩
    refine x_aloadr_n C dX1_trip_43 44 rfl rfl ?_
    refine x_geti C fl_X1_102 (Or.inl rfl) dX1_trip_44 47 rfl hC.1 (show cM _ _ 0 35 = _ from rfl) ?_
    exact x_iret C dX1_trip_47 (Nat.le_refl _) (Nat.le_refl _) (Qp_s (by rw [sp_trip, if_pos h8]; exact congrArg (fun z => (z, _)) hr.1.symm) (CoR_trip hR hr) (fun a q1 q2 => cM_n _ _ (by omega)))
  · refine x_icm C dX1_trip_11 12 rfl ?_
    exact x_iret C dX1_trip_12 (Nat.le_refl _) (Nat.le_refl _) (Qp_n hR (by simp [sp_trip, no1, h8]))
end Co21
