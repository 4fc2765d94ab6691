/-! the twin: trips -/
abbrev sN (I : Mi) : Nat := nt (I 473 63)
/-- many, end, driven, rests, sights, begins; the way that is tried: sights, begins -/
abbrev TS : Type := Int32 × Int32 × Int32 × Int32 × (Nat → Int32) × (Nat → Int32) × (Nat → Int32) × (Nat → Int32)
def cpf (f g : Nat → Int32) (n : Nat) : Nat → Int32 := fun i => if i < n then f i else g i
def hmM (wy : Nat → Int32) (n here : Nat) : Int32 := if n = 0 then nI 0 else wy (7 * here)
def rsB (sn m : Int32) : Bool := decide (nI 270 < sn + m)
def enT (ti sn m : Int32) : Int32 := ti + m + nI (if rsB sn m = true then 45 else 0)
def okH (n : Nat) (m en dr : Int32) (x : TS) : Bool := !(decide (0 < n) && decide (m = 0)) && !decide (nI 540 < dr + m) && !(decide (0 < n) && decide (nI 1440 < en)) && !(decide (nI n < x.1) || (decide (nI n = x.1) && (decide (x.2.1 < en) || (decide (en = x.2.1) && !decide (dr + m < x.2.2.1)))))
def hmS (n : Nat) (m en dr re : Int32) (rs : Bool) (x : TS) : TS := (nI n, en, dr + m, re + bz rs, cpf x.2.2.2.2.2.2.1 x.2.2.2.2.1 n, cpf x.2.2.2.2.2.2.2 x.2.2.2.2.2.1 n, x.2.2.2.2.2.2.1, x.2.2.2.2.2.2.2)
def hmT (wy : Nat → Int32) (n here : Nat) (ti sn dr re : Int32) (x : TS) : TS :=
  if okH n (hmM wy n here) (enT ti sn (hmM wy n here)) dr x then hmS n (hmM wy n here) (enT ti sn (hmM wy n here)) dr re (rsB sn (hmM wy n here)) x else x
def trL (step : Nat → TS → TS) : Nat → TS → TS
  | 0, x => x
  | s + 1, x => step (s + 1) (trL step s x)
def bgT (op : Nat → Int32) (s : Nat) (co : Int32) : Int32 := if co < op s then op s else co
def trO (op sh st : Nat → Int32) (s seen : Nat) (m co dr : Int32) : Bool := !seen.testBit s && !decide (m = 0) && !decide (nI 540 < dr + m) && !decide (sh s < bgT op s co + st s)
def snT (sn m en co : Int32) : Int32 := if en - co < nI 45 then (if rsB sn m = true then m else sn + m) else nI 0
def pth (n s : Nat) (b : Int32) (x : TS) : TS := (x.1, x.2.1, x.2.2.1, x.2.2.2.1, x.2.2.2.2.1, x.2.2.2.2.2.1, va_up x.2.2.2.2.2.2.1 n (nI s), va_up x.2.2.2.2.2.2.2 n b)
def trG (wy op sh st : Nat → Int32) (N : Nat) : Nat → Nat → Nat → Nat → Int32 → Int32 → Int32 → Int32 → TS → TS
  | 0, _, _, _, _, _, _, _, x => x
  | f + 1, n, here, seen, ti, sn, dr, re, x => trL (fun s x => if trO op sh st s seen (wy (7 * here + s)) (enT ti sn (wy (7 * here + s))) dr then
      trG wy op sh st N f (n + 1) s (seen ||| 2 ^ s) (bgT op s (enT ti sn (wy (7 * here + s))) + st s) (snT sn (wy (7 * here + s)) (bgT op s (enT ti sn (wy (7 * here + s))) + st s) (enT ti sn (wy (7 * here + s)))) (dr + wy (7 * here + s)) (re + bz (rsB sn (wy (7 * here + s)))) (pth n s (bgT op s (enT ti sn (wy (7 * here + s)))) x)
    else x) N (hmT wy n here ti sn dr re x)
/-- the memory of a trip -/
def trM (I : Mi) (x : TS) : Mi := fun b i => if b = 473 then (if i = 71 then x.1 else if i = 72 then x.2.1 else if i = 73 then x.2.2.1 else if i = 74 then x.2.2.2.1 else I b i) else if b = 516 then x.2.2.2.2.1 i else if b = 517 then x.2.2.2.2.2.1 i else if b = 514 then x.2.2.2.2.2.2.1 i else if b = 515 then x.2.2.2.2.2.2.2 i else I b i
section
variable (I : Mi) (a b c d : Int32) (e f g h : Nat → Int32) (v : Int32) (i : Nat)
theorem m71 : trM I (a, b, c, d, e, f, g, h) 473 71 = a := rfl
theorem m72 : trM I (a, b, c, d, e, f, g, h) 473 72 = b := rfl
theorem m73 : trM I (a, b, c, d, e, f, g, h) 473 73 = c := rfl
theorem m74 : trM I (a, b, c, d, e, f, g, h) 473 74 = d := rfl
theorem s71 : sto (trM I (a, b, c, d, e, f, g, h)) 473 71 v = trM I (v, b, c, d, e, f, g, h) := by
  funext x j; rw [sto_at]; unfold trM; by_cases hx : x = 473 <;> by_cases hj : j = 71 <;> simp [hx, hj]
theorem s72 : sto (trM I (a, b, c, d, e, f, g, h)) 473 72 v = trM I (a, v, c, d, e, f, g, h) := by
  funext x j; rw [sto_at]; unfold trM; by_cases hx : x = 473 <;> by_cases hj : j = 72 <;> simp [hx, hj]
theorem s73 : sto (trM I (a, b, c, d, e, f, g, h)) 473 73 v = trM I (a, b, v, d, e, f, g, h) := by
  funext x j; rw [sto_at]; unfold trM; by_cases hx : x = 473 <;> by_cases hj : j = 73 <;> simp [hx, hj]
theorem s74 : sto (trM I (a, b, c, d, e, f, g, h)) 473 74 v = trM I (a, b, c, v, e, f, g, h) := by
  funext x j; rw [sto_at]; unfold trM; by_cases hx : x = 473 <;> by_cases hj : j = 74 <;> simp [hx, hj]
theorem s516 : sto (trM I (a, b, c, d, e, f, g, h)) 516 i v = trM I (a, b, c, d, va_up e i v, f, g, h) := by
  funext x j; rw [sto_at]; unfold trM va_up; by_cases hx : x = 516 <;> by_cases hj : j = i <;> simp [hx, hj]
theorem s517 : sto (trM I (a, b, c, d, e, f, g, h)) 517 i v = trM I (a, b, c, d, e, va_up f i v, g, h) := by
  funext x j; rw [sto_at]; unfold trM va_up; by_cases hx : x = 517 <;> by_cases hj : j = i <;> simp [hx, hj]
theorem s514 : sto (trM I (a, b, c, d, e, f, g, h)) 514 i v = trM I (a, b, c, d, e, f, va_up g i v, h) := by
  funext x j; rw [sto_at]; unfold trM va_up; by_cases hx : x = 514 <;> by_cases hj : j = i <;> simp [hx, hj]
theorem s515 : sto (trM I (a, b, c, d, e, f, g, h)) 515 i v = trM I (a, b, c, d, e, f, g, va_up h i v) := by
  funext x j; rw [sto_at]; unfold trM va_up; by_cases hx : x = 515 <;> by_cases hj : j = i <;> simp [hx, hj]
end
theorem trM_n (I : Mi) (x : TS) {b : Nat} (h : b ≠ 473 ∧ b ≠ 514 ∧ b ≠ 515 ∧ b ≠ 516 ∧ b ≠ 517) : trM I x b = I b := by
  funext i; unfold trM; simp [h.1, h.2.1, h.2.2.1, h.2.2.2.1, h.2.2.2.2]
theorem trM_s (I : Mi) (x : TS) {i : Nat} (h : ¬ (71 ≤ i ∧ i ≤ 74)) : trM I x 473 i = I 473 i := by
  unfold trM
  rw [if_pos rfl, if_neg (by omega), if_neg (by omega), if_neg (by omega), if_neg (by omega)]
theorem cpf_s (f g : Nat → Int32) (n : Nat) : va_up (cpf f g n) n (f n) = cpf f g (n + 1) := by
  funext i
  unfold va_up cpf
  by_cases h : i = n
  · subst h; simp
  · have : (i < n + 1) ↔ (i < n) := by omega
    simp [h, this]
theorem cpf_0 (f g : Nat → Int32) : cpf f g 0 = g := by funext i; simp [cpf]
section Tw18
variable {w : Wd} {l : Launch} {S : Sh} {I : Mi} {J : Ml}
theorem kX3_home (hS : twS S) {n here : Nat} (hn : n ≤ 6) (hh : here ≤ 6) {ti sn dr re : Int32} {x : TS} : Ct w l yX3_home cX3_home 11 none 1 0 0 [.ref 473, .int (nI n), .int (nI here), .int ti, .int sn, .int dr, .int re] S (trM I x) J (Qv (trM I (hmT (I 513) n here ti sn dr re x)) S J) := by
  obtain ⟨x1, x2, x3, x4, x5, x6, x7, x8⟩ := x
  refine Ct.of [some _, some _, some _, some _, some _, some _, some _, none, none, none, none] rfl (Nat.le_of_ble_eq_true rfl) (by decide) ?_
  intro κ hκ C
  subst hκ
  refine x_iload_n C dX3_home_0 1 rfl rfl ?_
  apply x_jN (pj := 17) (fun kt kf => x_ifneN C dX3_home_1 4 8 rfl (by decide) (by omega) kt kf)
  case ht =>
    intro K
    refine x_aloadr_n C dX3_home_8 9 rfl rfl ?_
    refine x_getr C fl_X3_139 (Or.inr ⟨_, rfl⟩) dX3_home_9 12 rfl hS.1 (twR_way hS) ?_
    refine x_bip (j := 7) C dX3_home_12 14 rfl (by decide) ?_
    refine x_iload_n C dX3_home_14 15 rfl rfl ?_
    refine x_imul C dX3_home_15 16 rfl (pk_mul _ _) ?_
    refine x_iald C dX3_home_16 17 rfl (twA_way hS) (twN_way hS) rfl (by omega) (by decide) (congrFun (trM_n I _ (b := 513) (by decide)) _) ?_
    exact K
  case hf =>
    intro K
    refine x_ic (j := 0) C dX3_home_4 5 rfl ?_
    refine x_goto C dX3_home_5 17 (by decide) ?_
    exact K
  refine x_istore C dX3_home_17 19 rfl [_, _, _, _, _, _, _, _, _, _, _] (by decide) rfl rfl ?_
  generalize hm : (if n = 0 then nI 0 else I 513 (7 * here)) = m at *
  refine x_iload_n C dX3_home_19 20 rfl rfl ?_
  refine x_ifleN C dX3_home_20 23 28 rfl (by decide) (by omega) (fun h20 => ?_) (fun h20 => ?_)
  · have e20 : ¬ 0 < n := by omega
    refine x_iload C dX3_home_28 30 rfl rfl ?_
    refine x_iload C dX3_home_30 32 rfl rfl ?_
    refine x_iadd C dX3_home_32 33 rfl rfl ?_
    refine x_sip (j := 540) C dX3_home_33 36 rfl (by decide) ?_
    refine x_icmple C dX3_home_36 39 40 rfl (by decide) (fun h36 => ?_) (fun h36 => ?_)
    · refine x_iload C dX3_home_40 42 rfl rfl ?_
      refine x_iload C dX3_home_42 44 rfl rfl ?_
      refine x_iadd C dX3_home_44 45 rfl rfl ?_
      refine x_sip (j := 270) C dX3_home_45 48 rfl (by decide) ?_
      apply x_jNZ0 (pj := 56) (fun kt kf => x_icmple C dX3_home_48 51 55 rfl (by decide) kt kf)
      case ht =>
        intro K
        refine x_ic (j := 0) C dX3_home_55 56 rfl ?_
        exact K
      case hf =>
        intro K
        refine x_ic (j := 1) C dX3_home_51 52 rfl ?_
        refine x_goto C dX3_home_52 56 (by decide) ?_
        exact K
      refine x_istore C dX3_home_56 58 rfl [_, _, _, _, _, _, _, _, _, _, _] (by decide) rfl rfl ?_
      generalize hr : decide (nI 270 < sn + m) = rs at *
      refine x_iload_n C dX3_home_58 59 rfl rfl ?_
      refine x_iload C dX3_home_59 61 rfl rfl ?_
      refine x_iadd C dX3_home_61 62 rfl rfl ?_
      refine x_iload C dX3_home_62 64 rfl rfl ?_
      apply x_jNN (pj := 73) (fun kt kf => x_ifeqZ C dX3_home_64 67 72 rfl (by decide) (fun h => kt (by simp [h])) kf)
      case ht =>
        intro K
        refine x_ic (j := 0) C dX3_home_72 73 rfl ?_
        exact K
      case hf =>
        intro K
        refine x_bip (j := 45) C dX3_home_67 69 rfl (by decide) ?_
        refine x_goto C dX3_home_69 73 (by decide) ?_
        exact K
      refine x_iadd C dX3_home_73 74 rfl rfl ?_
      refine x_istore C dX3_home_74 76 rfl [_, _, _, _, _, _, _, _, _, _, _] (by decide) rfl rfl ?_
      generalize he : ti + m + nI (if rs = true then 45 else 0) = en at *
      have he2 : enT ti sn m = en := by unfold enT rsB; rw [hr]; exact he
      refine x_iload_n C dX3_home_76 77 rfl rfl ?_
      refine x_ifleN C dX3_home_77 80 89 rfl (by decide) (by omega) (fun _ => ?_) (fun h77 => absurd h77 (by omega))
      refine x_iload_n C dX3_home_89 90 rfl rfl ?_
      refine x_aloadr_n C dX3_home_90 91 rfl rfl ?_
      refine x_geti C fl_X3_416 (Or.inl rfl) dX3_home_91 94 rfl hS.1 (m71 _ _ _ _ _ _ _ _ _) ?_
      refine x_icmplt C dX3_home_94 97 135 rfl (by decide) (fun h94 => ?_) (fun h94 => ?_)
      · exact x_vret C dX3_home_135 (Nat.le_refl _) (Nat.le_refl _) (Qv_of (congrArg (trM I) (by unfold hmT; rw [show hmM (I 513) n here = m from hm, he2, if_neg (by unfold okH; simp [e20, h36, h94])])))
      · refine x_iload_n C dX3_home_97 98 rfl rfl ?_
        refine x_aloadr_n C dX3_home_98 99 rfl rfl ?_
        refine x_geti C fl_X3_416 (Or.inl rfl) dX3_home_99 102 rfl hS.1 (m71 _ _ _ _ _ _ _ _ _) ?_
        refine x_icmpne C dX3_home_102 105 136 rfl (by decide) (fun h102 => ?_) (fun h102 => ?_)
        · refine x_aloadr_n C dX3_home_136 137 rfl rfl ?_
          refine x_iload_n C dX3_home_137 138 rfl rfl ?_
          refine x_puti C fl_X3_416 (Or.inl rfl) (Or.inl rfl) dX3_home_138 141 rfl hS.1 ?_
          refine x_eqI (s71 _ _ _ _ _ _ _ _ _ _) ?_
          refine x_aloadr_n C dX3_home_141 142 rfl rfl ?_
          refine x_iload C dX3_home_142 144 rfl rfl ?_
          refine x_puti C fl_X3_419 (Or.inl rfl) (Or.inl rfl) dX3_home_144 147 rfl hS.1 ?_
          refine x_eqI (s72 _ _ _ _ _ _ _ _ _ _) ?_
          refine x_aloadr_n C dX3_home_147 148 rfl rfl ?_
          refine x_iload C dX3_home_148 150 rfl rfl ?_
          refine x_iload C dX3_home_150 152 rfl rfl ?_
          refine x_iadd C dX3_home_152 153 rfl rfl ?_
          refine x_puti C fl_X3_422 (Or.inl rfl) (Or.inl rfl) dX3_home_153 156 rfl hS.1 ?_
          refine x_eqI (s73 _ _ _ _ _ _ _ _ _ _) ?_
          refine x_aloadr_n C dX3_home_156 157 rfl rfl ?_
          refine x_iload C dX3_home_157 159 rfl rfl ?_
          refine x_iload C dX3_home_159 161 rfl rfl ?_
          apply x_jb (pj := 169) (fun kt kf => x_ifeqZ C dX3_home_161 164 168 rfl (by decide) kt kf)
          case ht =>
            intro K
            refine x_ic (j := 0) C dX3_home_168 169 rfl ?_
            exact K
          case hf =>
            intro K
            refine x_ic (j := 1) C dX3_home_164 165 rfl ?_
            refine x_goto C dX3_home_165 169 (by decide) ?_
            exact K
          refine x_iadd C dX3_home_169 170 rfl rfl ?_
          refine x_puti C fl_X3_425 (Or.inl rfl) (Or.inl rfl) dX3_home_170 173 rfl hS.1 ?_
          refine x_eqI (s74 _ _ _ _ _ _ _ _ _ _) ?_
          refine x_ic (j := 0) C dX3_home_173 174 rfl ?_
          refine x_istore C dX3_home_174 176 rfl [_, _, _, _, _, _, _, _, _, _, _] (by decide) rfl rfl ?_
          have hl : ∀ (j k : Nat), k + j = n → XX w κ (Zr w κ (Qv (trM I (hmT (I 513) n here ti sn dr re (x1, x2, x3, x4, x5, x6, x7, x8))) S J)) 0 0 176 [some (.ref 473), some (.int (nI n)), some (.int (nI here)), some (.int ti), some (.int sn), some (.int dr), some (.int re), some (.int m), some (.int (bz rs)), some (.int en), some (.int (nI k))] [] S (trM I (nI n, en, dr + m, re + bz rs, cpf x7 x5 k, cpf x8 x6 k, x7, x8)) J := by
            intro j
            induction j with
            | zero =>
              intro k hk
              have hk : n = k := Eq.symm hk
              subst hk
              refine x_iload C dX3_home_176 178 rfl rfl ?_
              refine x_iload_n C dX3_home_178 179 rfl rfl ?_
              refine x_icmpgeN C dX3_home_179 182 216 rfl (by decide) (by omega) (by omega) (fun _ => ?_) (fun h179 => absurd h179 (by omega))
              exact x_vret C dX3_home_216 (Nat.le_refl _) (Nat.le_refl _) (Qv_of (congrArg (trM I) (by unfold hmT; rw [show hmM (I 513) n here = m from hm, he2, show rsB sn m = rs from hr, if_pos (by unfold okH; simp [e20, h36, h94, h102])]; rfl)))
            | succ j ih =>
              intro k hk
              refine x_iload C dX3_home_176 178 rfl rfl ?_
              refine x_iload_n C dX3_home_178 179 rfl rfl ?_
              refine x_icmpgeN C dX3_home_179 182 216 rfl (by decide) (by omega) (by omega) (fun h179 => absurd h179 (by omega)) (fun _ => ?_)
              refine x_aloadr_n C dX3_home_182 183 rfl rfl ?_
              refine x_getr C fl_X3_148 (Or.inr ⟨_, rfl⟩) dX3_home_183 186 rfl hS.1 (twR_tripSight hS) ?_
              refine x_iload C dX3_home_186 188 rfl rfl ?_
              refine x_aloadr_n C dX3_home_188 189 rfl rfl ?_
              refine x_getr C fl_X3_142 (Or.inr ⟨_, rfl⟩) dX3_home_189 192 rfl hS.1 (twR_gone hS) ?_
              refine x_iload C dX3_home_192 194 rfl rfl ?_
              refine x_iald C dX3_home_194 195 rfl (twA_gone hS) (twN_gone hS) rfl (by omega) (by decide) (show trM I (_, _, _, _, _, _, x7, _) 514 k = x7 k from rfl) ?_
              refine x_iast C dX3_home_195 196 rfl (twA_tripSight hS) (twN_tripSight hS) rfl (by omega) (by decide) ?_
              refine x_eqI ((s516 _ _ _ _ _ _ _ _ _ _ _).trans (congrArg (fun z => trM I (_, _, _, _, z, _, _, _)) (cpf_s x7 x5 k))) ?_
              refine x_aloadr_n C dX3_home_196 197 rfl rfl ?_
              refine x_getr C fl_X3_151 (Or.inr ⟨_, rfl⟩) dX3_home_197 200 rfl hS.1 (twR_tripBegins hS) ?_
              refine x_iload C dX3_home_200 202 rfl rfl ?_
              refine x_aloadr_n C dX3_home_202 203 rfl rfl ?_
              refine x_getr C fl_X3_145 (Or.inr ⟨_, rfl⟩) dX3_home_203 206 rfl hS.1 (twR_begins hS) ?_
              refine x_iload C dX3_home_206 208 rfl rfl ?_
              refine x_iald C dX3_home_208 209 rfl (twA_begins hS) (twN_begins hS) rfl (by omega) (by decide) (show trM I (_, _, _, _, _, _, _, x8) 515 k = x8 k from rfl) ?_
              refine x_iast C dX3_home_209 210 rfl (twA_tripBegins hS) (twN_tripBegins hS) rfl (by omega) (by decide) ?_
              refine x_eqI ((s517 _ _ _ _ _ _ _ _ _ _ _).trans (congrArg (fun z => trM I (_, _, _, _, _, z, _, _)) (cpf_s x8 x6 k))) ?_
              refine x_iinc C dX3_home_210 213 rfl [_, _, _, _, _, _, _, _, _, _, _] (nI_inc _) (by decide) rfl rfl rfl ?_
              refine x_goto C dX3_home_213 176 (by decide) ?_
              exact ih (k + 1) (by omega)
          refine x_eqI ?_ (hl n 0 (Nat.zero_add _))
          rw [cpf_0, cpf_0]
        · have e102 := eq_true h102
          refine x_iload C dX3_home_105 107 rfl rfl ?_
          refine x_aloadr_n C dX3_home_107 108 rfl rfl ?_
          refine x_geti C fl_X3_419 (Or.inl rfl) dX3_home_108 111 rfl hS.1 (m72 _ _ _ _ _ _ _ _ _) ?_
          refine x_icmpgt C dX3_home_111 114 135 rfl (by decide) (fun h111 => ?_) (fun h111 => ?_)
          · exact x_vret C dX3_home_135 (Nat.le_refl _) (Nat.le_refl _) (Qv_of (congrArg (trM I) (by unfold hmT; rw [show hmM (I 513) n here = m from hm, he2, if_neg (by unfold okH; simp [e20, h36, h94, e102, h111])])))
          · refine x_iload C dX3_home_114 116 rfl rfl ?_
            refine x_aloadr_n C dX3_home_116 117 rfl rfl ?_
            refine x_geti C fl_X3_419 (Or.inl rfl) dX3_home_117 120 rfl hS.1 (m72 _ _ _ _ _ _ _ _ _) ?_
            refine x_icmpne C dX3_home_120 123 136 rfl (by decide) (fun h120 => ?_) (fun h120 => ?_)
            · refine x_aloadr_n C dX3_home_136 137 rfl rfl ?_
              refine x_iload_n C dX3_home_137 138 rfl rfl ?_
              refine x_puti C fl_X3_416 (Or.inl rfl) (Or.inl rfl) dX3_home_138 141 rfl hS.1 ?_
              refine x_eqI (s71 _ _ _ _ _ _ _ _ _ _) ?_
              refine x_aloadr_n C dX3_home_141 142 rfl rfl ?_
              refine x_iload C dX3_home_142 144 rfl rfl ?_
              refine x_puti C fl_X3_419 (Or.inl rfl) (Or.inl rfl) dX3_home_144 147 rfl hS.1 ?_
              refine x_eqI (s72 _ _ _ _ _ _ _ _ _ _) ?_
              refine x_aloadr_n C dX3_home_147 148 rfl rfl ?_
              refine x_iload C dX3_home_148 150 rfl rfl ?_
              refine x_iload C dX3_home_150 152 rfl rfl ?_
              refine x_iadd C dX3_home_152 153 rfl rfl ?_
              refine x_puti C fl_X3_422 (Or.inl rfl) (Or.inl rfl) dX3_home_153 156 rfl hS.1 ?_
              refine x_eqI (s73 _ _ _ _ _ _ _ _ _ _) ?_
              refine x_aloadr_n C dX3_home_156 157 rfl rfl ?_
              refine x_iload C dX3_home_157 159 rfl rfl ?_
              refine x_iload C dX3_home_159 161 rfl rfl ?_
              apply x_jb (pj := 169) (fun kt kf => x_ifeqZ C dX3_home_161 164 168 rfl (by decide) kt kf)
              case ht =>
                intro K
                refine x_ic (j := 0) C dX3_home_168 169 rfl ?_
                exact K
              case hf =>
                intro K
                refine x_ic (j := 1) C dX3_home_164 165 rfl ?_
                refine x_goto C dX3_home_165 169 (by decide) ?_
                exact K
              refine x_iadd C dX3_home_169 170 rfl rfl ?_
              refine x_puti C fl_X3_425 (Or.inl rfl) (Or.inl rfl) dX3_home_170 173 rfl hS.1 ?_
              refine x_eqI (s74 _ _ _ _ _ _ _ _ _ _) ?_
              refine x_ic (j := 0) C dX3_home_173 174 rfl ?_
              refine x_istore C dX3_home_174 176 rfl [_, _, _, _, _, _, _, _, _, _, _] (by decide) rfl rfl ?_
              have hl : ∀ (j k : Nat), k + j = n → XX w κ (Zr w κ (Qv (trM I (hmT (I 513) n here ti sn dr re (x1, x2, x3, x4, x5, x6, x7, x8))) S J)) 0 0 176 [some (.ref 473), some (.int (nI n)), some (.int (nI here)), some (.int ti), some (.int sn), some (.int dr), some (.int re), some (.int m), some (.int (bz rs)), some (.int en), some (.int (nI k))] [] S (trM I (nI n, en, dr + m, re + bz rs, cpf x7 x5 k, cpf x8 x6 k, x7, x8)) J := by
                intro j
                induction j with
                | zero =>
                  intro k hk
                  have hk : n = k := Eq.symm hk
                  subst hk
                  refine x_iload C dX3_home_176 178 rfl rfl ?_
                  refine x_iload_n C dX3_home_178 179 rfl rfl ?_
                  refine x_icmpgeN C dX3_home_179 182 216 rfl (by decide) (by omega) (by omega) (fun _ => ?_) (fun h179 => absurd h179 (by omega))
                  exact x_vret C dX3_home_216 (Nat.le_refl _) (Nat.le_refl _) (Qv_of (congrArg (trM I) (by unfold hmT; rw [show hmM (I 513) n here = m from hm, he2, show rsB sn m = rs from hr, if_pos (by unfold okH; simp [e20, h36, h94, e102, h111, h120])]; rfl)))
                | succ j ih =>
                  intro k hk
                  refine x_iload C dX3_home_176 178 rfl rfl ?_
                  refine x_iload_n C dX3_home_178 179 rfl rfl ?_
                  refine x_icmpgeN C dX3_home_179 182 216 rfl (by decide) (by omega) (by omega) (fun h179 => absurd h179 (by omega)) (fun _ => ?_)
                  refine x_aloadr_n C dX3_home_182 183 rfl rfl ?_
                  refine x_getr C fl_X3_148 (Or.inr ⟨_, rfl⟩) dX3_home_183 186 rfl hS.1 (twR_tripSight hS) ?_
                  refine x_iload C dX3_home_186 188 rfl rfl ?_
                  refine x_aloadr_n C dX3_home_188 189 rfl rfl ?_
                  refine x_getr C fl_X3_142 (Or.inr ⟨_, rfl⟩) dX3_home_189 192 rfl hS.1 (twR_gone hS) ?_
                  refine x_iload C dX3_home_192 194 rfl rfl ?_
                  refine x_iald C dX3_home_194 195 rfl (twA_gone hS) (twN_gone hS) rfl (by omega) (by decide) (show trM I (_, _, _, _, _, _, x7, _) 514 k = x7 k from rfl) ?_
                  refine x_iast C dX3_home_195 196 rfl (twA_tripSight hS) (twN_tripSight hS) rfl (by omega) (by decide) ?_
                  refine x_eqI ((s516 _ _ _ _ _ _ _ _ _ _ _).trans (congrArg (fun z => trM I (_, _, _, _, z, _, _, _)) (cpf_s x7 x5 k))) ?_
                  refine x_aloadr_n C dX3_home_196 197 rfl rfl ?_
                  refine x_getr C fl_X3_151 (Or.inr ⟨_, rfl⟩) dX3_home_197 200 rfl hS.1 (twR_tripBegins hS) ?_
                  refine x_iload C dX3_home_200 202 rfl rfl ?_
                  refine x_aloadr_n C dX3_home_202 203 rfl rfl ?_
                  refine x_getr C fl_X3_145 (Or.inr ⟨_, rfl⟩) dX3_home_203 206 rfl hS.1 (twR_begins hS) ?_
                  refine x_iload C dX3_home_206 208 rfl rfl ?_
                  refine x_iald C dX3_home_208 209 rfl (twA_begins hS) (twN_begins hS) rfl (by omega) (by decide) (show trM I (_, _, _, _, _, _, _, x8) 515 k = x8 k from rfl) ?_
                  refine x_iast C dX3_home_209 210 rfl (twA_tripBegins hS) (twN_tripBegins hS) rfl (by omega) (by decide) ?_
                  refine x_eqI ((s517 _ _ _ _ _ _ _ _ _ _ _).trans (congrArg (fun z => trM I (_, _, _, _, _, z, _, _)) (cpf_s x8 x6 k))) ?_
                  refine x_iinc C dX3_home_210 213 rfl [_, _, _, _, _, _, _, _, _, _, _] (nI_inc _) (by decide) rfl rfl rfl ?_
                  refine x_goto C dX3_home_213 176 (by decide) ?_
                  exact ih (k + 1) (by omega)
              refine x_eqI ?_ (hl n 0 (Nat.zero_add _))
              rw [cpf_0, cpf_0]
            · have e120 := eq_true h120
              refine x_iload C dX3_home_123 125 rfl rfl ?_
              refine x_iload C dX3_home_125 127 rfl rfl ?_
              refine x_iadd C dX3_home_127 128 rfl rfl ?_
              refine x_aloadr_n C dX3_home_128 129 rfl rfl ?_
              refine x_geti C fl_X3_422 (Or.inl rfl) dX3_home_129 132 rfl hS.1 (m73 _ _ _ _ _ _ _ _ _) ?_
              refine x_icmplt C dX3_home_132 135 136 rfl (by decide) (fun h132 => ?_) (fun h132 => ?_)
              · refine x_aloadr_n C dX3_home_136 137 rfl rfl ?_
                refine x_iload_n C dX3_home_137 138 rfl rfl ?_
                refine x_puti C fl_X3_416 (Or.inl rfl) (Or.inl rfl) dX3_home_138 141 rfl hS.1 ?_
                refine x_eqI (s71 _ _ _ _ _ _ _ _ _ _) ?_
                refine x_aloadr_n C dX3_home_141 142 rfl rfl ?_
                refine x_iload C dX3_home_142 144 rfl rfl ?_
                refine x_puti C fl_X3_419 (Or.inl rfl) (Or.inl rfl) dX3_home_144 147 rfl hS.1 ?_
                refine x_eqI (s72 _ _ _ _ _ _ _ _ _ _) ?_
                refine x_aloadr_n C dX3_home_147 148 rfl rfl ?_
                refine x_iload C dX3_home_148 150 rfl rfl ?_
                refine x_iload C dX3_home_150 152 rfl rfl ?_
                refine x_iadd C dX3_home_152 153 rfl rfl ?_
                refine x_puti C fl_X3_422 (Or.inl rfl) (Or.inl rfl) dX3_home_153 156 rfl hS.1 ?_
                refine x_eqI (s73 _ _ _ _ _ _ _ _ _ _) ?_
                refine x_aloadr_n C dX3_home_156 157 rfl rfl ?_
                refine x_iload C dX3_home_157 159 rfl rfl ?_
                refine x_iload C dX3_home_159 161 rfl rfl ?_
                apply x_jb (pj := 169) (fun kt kf => x_ifeqZ C dX3_home_161 164 168 rfl (by decide) kt kf)
                case ht =>
                  intro K
                  refine x_ic (j := 0) C dX3_home_168 169 rfl ?_
                  exact K
                case hf =>
                  intro K
                  refine x_ic (j := 1) C dX3_home_164 165 rfl ?_
                  refine x_goto C dX3_home_165 169 (by decide) ?_
                  exact K
                refine x_iadd C dX3_home_169 170 rfl rfl ?_
                refine x_puti C fl_X3_425 (Or.inl rfl) (Or.inl rfl) dX3_home_170 173 rfl hS.1 ?_
                refine x_eqI (s74 _ _ _ _ _ _ _ _ _ _) ?_
                refine x_ic (j := 0) C dX3_home_173 174 rfl ?_
                refine x_istore C dX3_home_174 176 rfl [_, _, _, _, _, _, _, _, _, _, _] (by decide) rfl rfl ?_
                have hl : ∀ (j k : Nat), k + j = n → XX w κ (Zr w κ (Qv (trM I (hmT (I 513) n here ti sn dr re (x1, x2, x3, x4, x5, x6, x7, x8))) S J)) 0 0 176 [some (.ref 473), some (.int (nI n)), some (.int (nI here)), some (.int ti), some (.int sn), some (.int dr), some (.int re), some (.int m), some (.int (bz rs)), some (.int en), some (.int (nI k))] [] S (trM I (nI n, en, dr + m, re + bz rs, cpf x7 x5 k, cpf x8 x6 k, x7, x8)) J := by
                  intro j
                  induction j with
                  | zero =>
                    intro k hk
                    have hk : n = k := Eq.symm hk
                    subst hk
                    refine x_iload C dX3_home_176 178 rfl rfl ?_
                    refine x_iload_n C dX3_home_178 179 rfl rfl ?_
                    refine x_icmpgeN C dX3_home_179 182 216 rfl (by decide) (by omega) (by omega) (fun _ => ?_) (fun h179 => absurd h179 (by omega))
                    exact x_vret C dX3_home_216 (Nat.le_refl _) (Nat.le_refl _) (Qv_of (congrArg (trM I) (by unfold hmT; rw [show hmM (I 513) n here = m from hm, he2, show rsB sn m = rs from hr, if_pos (by unfold okH; simp [e20, h36, h94, e102, h111, e120, h132])]; rfl)))
                  | succ j ih =>
                    intro k hk
                    refine x_iload C dX3_home_176 178 rfl rfl ?_
                    refine x_iload_n C dX3_home_178 179 rfl rfl ?_
                    refine x_icmpgeN C dX3_home_179 182 216 rfl (by decide) (by omega) (by omega) (fun h179 => absurd h179 (by omega)) (fun _ => ?_)
                    refine x_aloadr_n C dX3_home_182 183 rfl rfl ?_
                    refine x_getr C fl_X3_148 (Or.inr ⟨_, rfl⟩) dX3_home_183 186 rfl hS.1 (twR_tripSight hS) ?_
                    refine x_iload C dX3_home_186 188 rfl rfl ?_
                    refine x_aloadr_n C dX3_home_188 189 rfl rfl ?_
                    refine x_getr C fl_X3_142 (Or.inr ⟨_, rfl⟩) dX3_home_189 192 rfl hS.1 (twR_gone hS) ?_
                    refine x_iload C dX3_home_192 194 rfl rfl ?_
                    refine x_iald C dX3_home_194 195 rfl (twA_gone hS) (twN_gone hS) rfl (by omega) (by decide) (show trM I (_, _, _, _, _, _, x7, _) 514 k = x7 k from rfl) ?_
                    refine x_iast C dX3_home_195 196 rfl (twA_tripSight hS) (twN_tripSight hS) rfl (by omega) (by decide) ?_
                    refine x_eqI ((s516 _ _ _ _ _ _ _ _ _ _ _).trans (congrArg (fun z => trM I (_, _, _, _, z, _, _, _)) (cpf_s x7 x5 k))) ?_
                    refine x_aloadr_n C dX3_home_196 197 rfl rfl ?_
                    refine x_getr C fl_X3_151 (Or.inr ⟨_, rfl⟩) dX3_home_197 200 rfl hS.1 (twR_tripBegins hS) ?_
                    refine x_iload C dX3_home_200 202 rfl rfl ?_
                    refine x_aloadr_n C dX3_home_202 203 rfl rfl ?_
                    refine x_getr C fl_X3_145 (Or.inr ⟨_, rfl⟩) dX3_home_203 206 rfl hS.1 (twR_begins hS) ?_
                    refine x_iload C dX3_home_206 208 rfl rfl ?_
                    refine x_iald C dX3_home_208 209 rfl (twA_begins hS) (twN_begins hS) rfl (by omega) (by decide) (show trM I (_, _, _, _, _, _, _, x8) 515 k = x8 k from rfl) ?_
                    refine x_iast C dX3_home_209 210 rfl (twA_tripBegins hS) (twN_tripBegins hS) rfl (by omega) (by decide) ?_
                    refine x_eqI ((s517 _ _ _ _ _ _ _ _ _ _ _).trans (congrArg (fun z => trM I (_, _, _, _, _, z, _, _)) (cpf_s x8 x6 k))) ?_
                    refine x_iinc C dX3_home_210 213 rfl [_, _, _, _, _, _, _, _, _, _, _] (nI_inc _) (by decide) rfl rfl rfl ?_
                    refine x_goto C dX3_home_213 176 (by decide) ?_
                    exact ih (k + 1) (by omega)
                refine x_eqI ?_ (hl n 0 (Nat.zero_add _))
                rw [cpf_0, cpf_0]
              · exact x_vret C dX3_home_135 (Nat.le_refl _) (Nat.le_refl _) (Qv_of (congrArg (trM I) (by unfold hmT; rw [show hmM (I 513) n here = m from hm, he2, if_neg (by unfold okH; simp [e20, h36, h94, e102, h111, e120, h132])])))
    · exact x_vret C dX3_home_39 (Nat.le_refl _) (Nat.le_refl _) (Qv_of (congrArg (trM I) (by unfold hmT; rw [show hmM (I 513) n here = m from hm, if_neg (by unfold okH; simp [e20, h36])])))
  · refine x_iload C dX3_home_23 25 rfl rfl ?_
    refine x_ifeq C dX3_home_25 28 39 rfl (by decide) (fun h25 => ?_) (fun h25 => ?_)
    · exact x_vret C dX3_home_39 (Nat.le_refl _) (Nat.le_refl _) (Qv_of (congrArg (trM I) (by unfold hmT; rw [show hmM (I 513) n here = m from hm, if_neg (by unfold okH; simp [h20, h25])])))
    · refine x_iload C dX3_home_28 30 rfl rfl ?_
      refine x_iload C dX3_home_30 32 rfl rfl ?_
      refine x_iadd C dX3_home_32 33 rfl rfl ?_
      refine x_sip (j := 540) C dX3_home_33 36 rfl (by decide) ?_
      refine x_icmple C dX3_home_36 39 40 rfl (by decide) (fun h36 => ?_) (fun h36 => ?_)
      · refine x_iload C dX3_home_40 42 rfl rfl ?_
        refine x_iload C dX3_home_42 44 rfl rfl ?_
        refine x_iadd C dX3_home_44 45 rfl rfl ?_
        refine x_sip (j := 270) C dX3_home_45 48 rfl (by decide) ?_
        apply x_jNZ0 (pj := 56) (fun kt kf => x_icmple C dX3_home_48 51 55 rfl (by decide) kt kf)
        case ht =>
          intro K
          refine x_ic (j := 0) C dX3_home_55 56 rfl ?_
          exact K
        case hf =>
          intro K
          refine x_ic (j := 1) C dX3_home_51 52 rfl ?_
          refine x_goto C dX3_home_52 56 (by decide) ?_
          exact K
        refine x_istore C dX3_home_56 58 rfl [_, _, _, _, _, _, _, _, _, _, _] (by decide) rfl rfl ?_
        generalize hr : decide (nI 270 < sn + m) = rs at *
        refine x_iload_n C dX3_home_58 59 rfl rfl ?_
        refine x_iload C dX3_home_59 61 rfl rfl ?_
        refine x_iadd C dX3_home_61 62 rfl rfl ?_
        refine x_iload C dX3_home_62 64 rfl rfl ?_
        apply x_jNN (pj := 73) (fun kt kf => x_ifeqZ C dX3_home_64 67 72 rfl (by decide) (fun h => kt (by simp [h])) kf)
        case ht =>
          intro K
          refine x_ic (j := 0) C dX3_home_72 73 rfl ?_
          exact K
        case hf =>
          intro K
          refine x_bip (j := 45) C dX3_home_67 69 rfl (by decide) ?_
          refine x_goto C dX3_home_69 73 (by decide) ?_
          exact K
        refine x_iadd C dX3_home_73 74 rfl rfl ?_
        refine x_istore C dX3_home_74 76 rfl [_, _, _, _, _, _, _, _, _, _, _] (by decide) rfl rfl ?_
        generalize he : ti + m + nI (if rs = true then 45 else 0) = en at *
        have he2 : enT ti sn m = en := by unfold enT rsB; rw [hr]; exact he
        refine x_iload_n C dX3_home_76 77 rfl rfl ?_
        refine x_ifleN C dX3_home_77 80 89 rfl (by decide) (by omega) (fun h77 => absurd h77 (by omega)) (fun _ => ?_)
        refine x_iload C dX3_home_80 82 rfl rfl ?_
        refine x_sip (j := 1440) C dX3_home_82 85 rfl (by decide) ?_
        refine x_icmple C dX3_home_85 88 89 rfl (by decide) (fun h85 => ?_) (fun h85 => ?_)
        · refine x_iload_n C dX3_home_89 90 rfl rfl ?_
          refine x_aloadr_n C dX3_home_90 91 rfl rfl ?_
          refine x_geti C fl_X3_416 (Or.inl rfl) dX3_home_91 94 rfl hS.1 (m71 _ _ _ _ _ _ _ _ _) ?_
          refine x_icmplt C dX3_home_94 97 135 rfl (by decide) (fun h94 => ?_) (fun h94 => ?_)
          · exact x_vret C dX3_home_135 (Nat.le_refl _) (Nat.le_refl _) (Qv_of (congrArg (trM I) (by unfold hmT; rw [show hmM (I 513) n here = m from hm, he2, if_neg (by unfold okH; simp [h20, h25, h36, h85, h94])])))
          · refine x_iload_n C dX3_home_97 98 rfl rfl ?_
            refine x_aloadr_n C dX3_home_98 99 rfl rfl ?_
            refine x_geti C fl_X3_416 (Or.inl rfl) dX3_home_99 102 rfl hS.1 (m71 _ _ _ _ _ _ _ _ _) ?_
            refine x_icmpne C dX3_home_102 105 136 rfl (by decide) (fun h102 => ?_) (fun h102 => ?_)
            · refine x_aloadr_n C dX3_home_136 137 rfl rfl ?_
              refine x_iload_n C dX3_home_137 138 rfl rfl ?_
              refine x_puti C fl_X3_416 (Or.inl rfl) (Or.inl rfl) dX3_home_138 141 rfl hS.1 ?_
              refine x_eqI (s71 _ _ _ _ _ _ _ _ _ _) ?_
              refine x_aloadr_n C dX3_home_141 142 rfl rfl ?_
              refine x_iload C dX3_home_142 144 rfl rfl ?_
              refine x_puti C fl_X3_419 (Or.inl rfl) (Or.inl rfl) dX3_home_144 147 rfl hS.1 ?_
              refine x_eqI (s72 _ _ _ _ _ _ _ _ _ _) ?_
              refine x_aloadr_n C dX3_home_147 148 rfl rfl ?_
              refine x_iload C dX3_home_148 150 rfl rfl ?_
              refine x_iload C dX3_home_150 152 rfl rfl ?_
              refine x_iadd C dX3_home_152 153 rfl rfl ?_
              refine x_puti C fl_X3_422 (Or.inl rfl) (Or.inl rfl) dX3_home_153 156 rfl hS.1 ?_
              refine x_eqI (s73 _ _ _ _ _ _ _ _ _ _) ?_
              refine x_aloadr_n C dX3_home_156 157 rfl rfl ?_
              refine x_iload C dX3_home_157 159 rfl rfl ?_
              refine x_iload C dX3_home_159 161 rfl rfl ?_
              apply x_jb (pj := 169) (fun kt kf => x_ifeqZ C dX3_home_161 164 168 rfl (by decide) kt kf)
              case ht =>
                intro K
                refine x_ic (j := 0) C dX3_home_168 169 rfl ?_
                exact K
              case hf =>
                intro K
                refine x_ic (j := 1) C dX3_home_164 165 rfl ?_
                refine x_goto C dX3_home_165 169 (by decide) ?_
                exact K
              refine x_iadd C dX3_home_169 170 rfl rfl ?_
              refine x_puti C fl_X3_425 (Or.inl rfl) (Or.inl rfl) dX3_home_170 173 rfl hS.1 ?_
              refine x_eqI (s74 _ _ _ _ _ _ _ _ _ _) ?_
              refine x_ic (j := 0) C dX3_home_173 174 rfl ?_
              refine x_istore C dX3_home_174 176 rfl [_, _, _, _, _, _, _, _, _, _, _] (by decide) rfl rfl ?_
              have hl : ∀ (j k : Nat), k + j = n → XX w κ (Zr w κ (Qv (trM I (hmT (I 513) n here ti sn dr re (x1, x2, x3, x4, x5, x6, x7, x8))) S J)) 0 0 176 [some (.ref 473), some (.int (nI n)), some (.int (nI here)), some (.int ti), some (.int sn), some (.int dr), some (.int re), some (.int m), some (.int (bz rs)), some (.int en), some (.int (nI k))] [] S (trM I (nI n, en, dr + m, re + bz rs, cpf x7 x5 k, cpf x8 x6 k, x7, x8)) J := by
                intro j
                induction j with
                | zero =>
                  intro k hk
                  have hk : n = k := Eq.symm hk
                  subst hk
                  refine x_iload C dX3_home_176 178 rfl rfl ?_
                  refine x_iload_n C dX3_home_178 179 rfl rfl ?_
                  refine x_icmpgeN C dX3_home_179 182 216 rfl (by decide) (by omega) (by omega) (fun _ => ?_) (fun h179 => absurd h179 (by omega))
                  exact x_vret C dX3_home_216 (Nat.le_refl _) (Nat.le_refl _) (Qv_of (congrArg (trM I) (by unfold hmT; rw [show hmM (I 513) n here = m from hm, he2, show rsB sn m = rs from hr, if_pos (by unfold okH; simp [h20, h25, h36, h85, h94, h102])]; rfl)))
                | succ j ih =>
                  intro k hk
                  refine x_iload C dX3_home_176 178 rfl rfl ?_
                  refine x_iload_n C dX3_home_178 179 rfl rfl ?_
                  refine x_icmpgeN C dX3_home_179 182 216 rfl (by decide) (by omega) (by omega) (fun h179 => absurd h179 (by omega)) (fun _ => ?_)
                  refine x_aloadr_n C dX3_home_182 183 rfl rfl ?_
                  refine x_getr C fl_X3_148 (Or.inr ⟨_, rfl⟩) dX3_home_183 186 rfl hS.1 (twR_tripSight hS) ?_
                  refine x_iload C dX3_home_186 188 rfl rfl ?_
                  refine x_aloadr_n C dX3_home_188 189 rfl rfl ?_
                  refine x_getr C fl_X3_142 (Or.inr ⟨_, rfl⟩) dX3_home_189 192 rfl hS.1 (twR_gone hS) ?_
                  refine x_iload C dX3_home_192 194 rfl rfl ?_
                  refine x_iald C dX3_home_194 195 rfl (twA_gone hS) (twN_gone hS) rfl (by omega) (by decide) (show trM I (_, _, _, _, _, _, x7, _) 514 k = x7 k from rfl) ?_
                  refine x_iast C dX3_home_195 196 rfl (twA_tripSight hS) (twN_tripSight hS) rfl (by omega) (by decide) ?_
                  refine x_eqI ((s516 _ _ _ _ _ _ _ _ _ _ _).trans (congrArg (fun z => trM I (_, _, _, _, z, _, _, _)) (cpf_s x7 x5 k))) ?_
                  refine x_aloadr_n C dX3_home_196 197 rfl rfl ?_
                  refine x_getr C fl_X3_151 (Or.inr ⟨_, rfl⟩) dX3_home_197 200 rfl hS.1 (twR_tripBegins hS) ?_
                  refine x_iload C dX3_home_200 202 rfl rfl ?_
                  refine x_aloadr_n C dX3_home_202 203 rfl rfl ?_
                  refine x_getr C fl_X3_145 (Or.inr ⟨_, rfl⟩) dX3_home_203 206 rfl hS.1 (twR_begins hS) ?_
                  refine x_iload C dX3_home_206 208 rfl rfl ?_
                  refine x_iald C dX3_home_208 209 rfl (twA_begins hS) (twN_begins hS) rfl (by omega) (by decide) (show trM I (_, _, _, _, _, _, _, x8) 515 k = x8 k from rfl) ?_
                  refine x_iast C dX3_home_209 210 rfl (twA_tripBegins hS) (twN_tripBegins hS) rfl (by omega) (by decide) ?_
                  refine x_eqI ((s517 _ _ _ _ _ _ _ _ _ _ _).trans (congrArg (fun z => trM I (_, _, _, _, _, z, _, _)) (cpf_s x8 x6 k))) ?_
                  refine x_iinc C dX3_home_210 213 rfl [_, _, _, _, _, _, _, _, _, _, _] (nI_inc _) (by decide) rfl rfl rfl ?_
                  refine x_goto C dX3_home_213 176 (by decide) ?_
                  exact ih (k + 1) (by omega)
              refine x_eqI ?_ (hl n 0 (Nat.zero_add _))
              rw [cpf_0, cpf_0]
            · have e102 := eq_true h102
              refine x_iload C dX3_home_105 107 rfl rfl ?_
              refine x_aloadr_n C dX3_home_107 108 rfl rfl ?_
              refine x_geti C fl_X3_419 (Or.inl rfl) dX3_home_108 111 rfl hS.1 (m72 _ _ _ _ _ _ _ _ _) ?_
              refine x_icmpgt C dX3_home_111 114 135 rfl (by decide) (fun h111 => ?_) (fun h111 => ?_)
              · exact x_vret C dX3_home_135 (Nat.le_refl _) (Nat.le_refl _) (Qv_of (congrArg (trM I) (by unfold hmT; rw [show hmM (I 513) n here = m from hm, he2, if_neg (by unfold okH; simp [h20, h25, h36, h85, h94, e102, h111])])))
              · refine x_iload C dX3_home_114 116 rfl rfl ?_
                refine x_aloadr_n C dX3_home_116 117 rfl rfl ?_
                refine x_geti C fl_X3_419 (Or.inl rfl) dX3_home_117 120 rfl hS.1 (m72 _ _ _ _ _ _ _ _ _) ?_
                refine x_icmpne C dX3_home_120 123 136 rfl (by decide) (fun h120 => ?_) (fun h120 => ?_)
                · refine x_aloadr_n C dX3_home_136 137 rfl rfl ?_
                  refine x_iload_n C dX3_home_137 138 rfl rfl ?_
                  refine x_puti C fl_X3_416 (Or.inl rfl) (Or.inl rfl) dX3_home_138 141 rfl hS.1 ?_
                  refine x_eqI (s71 _ _ _ _ _ _ _ _ _ _) ?_
                  refine x_aloadr_n C dX3_home_141 142 rfl rfl ?_
                  refine x_iload C dX3_home_142 144 rfl rfl ?_
                  refine x_puti C fl_X3_419 (Or.inl rfl) (Or.inl rfl) dX3_home_144 147 rfl hS.1 ?_
                  refine x_eqI (s72 _ _ _ _ _ _ _ _ _ _) ?_
                  refine x_aloadr_n C dX3_home_147 148 rfl rfl ?_
                  refine x_iload C dX3_home_148 150 rfl rfl ?_
                  refine x_iload C dX3_home_150 152 rfl rfl ?_
                  refine x_iadd C dX3_home_152 153 rfl rfl ?_
                  refine x_puti C fl_X3_422 (Or.inl rfl) (Or.inl rfl) dX3_home_153 156 rfl hS.1 ?_
                  refine x_eqI (s73 _ _ _ _ _ _ _ _ _ _) ?_
                  refine x_aloadr_n C dX3_home_156 157 rfl rfl ?_
                  refine x_iload C dX3_home_157 159 rfl rfl ?_
                  refine x_iload C dX3_home_159 161 rfl rfl ?_
                  apply x_jb (pj := 169) (fun kt kf => x_ifeqZ C dX3_home_161 164 168 rfl (by decide) kt kf)
                  case ht =>
                    intro K
                    refine x_ic (j := 0) C dX3_home_168 169 rfl ?_
                    exact K
                  case hf =>
                    intro K
                    refine x_ic (j := 1) C dX3_home_164 165 rfl ?_
                    refine x_goto C dX3_home_165 169 (by decide) ?_
                    exact K
                  refine x_iadd C dX3_home_169 170 rfl rfl ?_
                  refine x_puti C fl_X3_425 (Or.inl rfl) (Or.inl rfl) dX3_home_170 173 rfl hS.1 ?_
                  refine x_eqI (s74 _ _ _ _ _ _ _ _ _ _) ?_
                  refine x_ic (j := 0) C dX3_home_173 174 rfl ?_
                  refine x_istore C dX3_home_174 176 rfl [_, _, _, _, _, _, _, _, _, _, _] (by decide) rfl rfl ?_
                  have hl : ∀ (j k : Nat), k + j = n → XX w κ (Zr w κ (Qv (trM I (hmT (I 513) n here ti sn dr re (x1, x2, x3, x4, x5, x6, x7, x8))) S J)) 0 0 176 [some (.ref 473), some (.int (nI n)), some (.int (nI here)), some (.int ti), some (.int sn), some (.int dr), some (.int re), some (.int m), some (.int (bz rs)), some (.int en), some (.int (nI k))] [] S (trM I (nI n, en, dr + m, re + bz rs, cpf x7 x5 k, cpf x8 x6 k, x7, x8)) J := by
                    intro j
                    induction j with
                    | zero =>
                      intro k hk
                      have hk : n = k := Eq.symm hk
                      subst hk
                      refine x_iload C dX3_home_176 178 rfl rfl ?_
                      refine x_iload_n C dX3_home_178 179 rfl rfl ?_
                      refine x_icmpgeN C dX3_home_179 182 216 rfl (by decide) (by omega) (by omega) (fun _ => ?_) (fun h179 => absurd h179 (by omega))
                      exact x_vret C dX3_home_216 (Nat.le_refl _) (Nat.le_refl _) (Qv_of (congrArg (trM I) (by unfold hmT; rw [show hmM (I 513) n here = m from hm, he2, show rsB sn m = rs from hr, if_pos (by unfold okH; simp [h20, h25, h36, h85, h94, e102, h111, h120])]; rfl)))
                    | succ j ih =>
                      intro k hk
                      refine x_iload C dX3_home_176 178 rfl rfl ?_
                      refine x_iload_n C dX3_home_178 179 rfl rfl ?_
                      refine x_icmpgeN C dX3_home_179 182 216 rfl (by decide) (by omega) (by omega) (fun h179 => absurd h179 (by omega)) (fun _ => ?_)
                      refine x_aloadr_n C dX3_home_182 183 rfl rfl ?_
                      refine x_getr C fl_X3_148 (Or.inr ⟨_, rfl⟩) dX3_home_183 186 rfl hS.1 (twR_tripSight hS) ?_
                      refine x_iload C dX3_home_186 188 rfl rfl ?_
                      refine x_aloadr_n C dX3_home_188 189 rfl rfl ?_
                      refine x_getr C fl_X3_142 (Or.inr ⟨_, rfl⟩) dX3_home_189 192 rfl hS.1 (twR_gone hS) ?_
                      refine x_iload C dX3_home_192 194 rfl rfl ?_
                      refine x_iald C dX3_home_194 195 rfl (twA_gone hS) (twN_gone hS) rfl (by omega) (by decide) (show trM I (_, _, _, _, _, _, x7, _) 514 k = x7 k from rfl) ?_
                      refine x_iast C dX3_home_195 196 rfl (twA_tripSight hS) (twN_tripSight hS) rfl (by omega) (by decide) ?_
                      refine x_eqI ((s516 _ _ _ _ _ _ _ _ _ _ _).trans (congrArg (fun z => trM I (_, _, _, _, z, _, _, _)) (cpf_s x7 x5 k))) ?_
                      refine x_aloadr_n C dX3_home_196 197 rfl rfl ?_
                      refine x_getr C fl_X3_151 (Or.inr ⟨_, rfl⟩) dX3_home_197 200 rfl hS.1 (twR_tripBegins hS) ?_
                      refine x_iload C dX3_home_200 202 rfl rfl ?_
                      refine x_aloadr_n C dX3_home_202 203 rfl rfl ?_
                      refine x_getr C fl_X3_145 (Or.inr ⟨_, rfl⟩) dX3_home_203 206 rfl hS.1 (twR_begins hS) ?_
                      refine x_iload C dX3_home_206 208 rfl rfl ?_
                      refine x_iald C dX3_home_208 209 rfl (twA_begins hS) (twN_begins hS) rfl (by omega) (by decide) (show trM I (_, _, _, _, _, _, _, x8) 515 k = x8 k from rfl) ?_
                      refine x_iast C dX3_home_209 210 rfl (twA_tripBegins hS) (twN_tripBegins hS) rfl (by omega) (by decide) ?_
                      refine x_eqI ((s517 _ _ _ _ _ _ _ _ _ _ _).trans (congrArg (fun z => trM I (_, _, _, _, _, z, _, _)) (cpf_s x8 x6 k))) ?_
                      refine x_iinc C dX3_home_210 213 rfl [_, _, _, _, _, _, _, _, _, _, _] (nI_inc _) (by decide) rfl rfl rfl ?_
                      refine x_goto C dX3_home_213 176 (by decide) ?_
                      exact ih (k + 1) (by omega)
                  refine x_eqI ?_ (hl n 0 (Nat.zero_add _))
                  rw [cpf_0, cpf_0]
                · have e120 := eq_true h120
                  refine x_iload C dX3_home_123 125 rfl rfl ?_
                  refine x_iload C dX3_home_125 127 rfl rfl ?_
                  refine x_iadd C dX3_home_127 128 rfl rfl ?_
                  refine x_aloadr_n C dX3_home_128 129 rfl rfl ?_
                  refine x_geti C fl_X3_422 (Or.inl rfl) dX3_home_129 132 rfl hS.1 (m73 _ _ _ _ _ _ _ _ _) ?_
                  refine x_icmplt C dX3_home_132 135 136 rfl (by decide) (fun h132 => ?_) (fun h132 => ?_)
                  · refine x_aloadr_n C dX3_home_136 137 rfl rfl ?_
                    refine x_iload_n C dX3_home_137 138 rfl rfl ?_
                    refine x_puti C fl_X3_416 (Or.inl rfl) (Or.inl rfl) dX3_home_138 141 rfl hS.1 ?_
                    refine x_eqI (s71 _ _ _ _ _ _ _ _ _ _) ?_
                    refine x_aloadr_n C dX3_home_141 142 rfl rfl ?_
                    refine x_iload C dX3_home_142 144 rfl rfl ?_
                    refine x_puti C fl_X3_419 (Or.inl rfl) (Or.inl rfl) dX3_home_144 147 rfl hS.1 ?_
                    refine x_eqI (s72 _ _ _ _ _ _ _ _ _ _) ?_
                    refine x_aloadr_n C dX3_home_147 148 rfl rfl ?_
                    refine x_iload C dX3_home_148 150 rfl rfl ?_
                    refine x_iload C dX3_home_150 152 rfl rfl ?_
                    refine x_iadd C dX3_home_152 153 rfl rfl ?_
                    refine x_puti C fl_X3_422 (Or.inl rfl) (Or.inl rfl) dX3_home_153 156 rfl hS.1 ?_
                    refine x_eqI (s73 _ _ _ _ _ _ _ _ _ _) ?_
                    refine x_aloadr_n C dX3_home_156 157 rfl rfl ?_
                    refine x_iload C dX3_home_157 159 rfl rfl ?_
                    refine x_iload C dX3_home_159 161 rfl rfl ?_
                    apply x_jb (pj := 169) (fun kt kf => x_ifeqZ C dX3_home_161 164 168 rfl (by decide) kt kf)
                    case ht =>
                      intro K
                      refine x_ic (j := 0) C dX3_home_168 169 rfl ?_
                      exact K
                    case hf =>
                      intro K
                      refine x_ic (j := 1) C dX3_home_164 165 rfl ?_
                      refine x_goto C dX3_home_165 169 (by decide) ?_
                      exact K
                    refine x_iadd C dX3_home_169 170 rfl rfl ?_
                    refine x_puti C fl_X3_425 (Or.inl rfl) (Or.inl rfl) dX3_home_170 173 rfl hS.1 ?_
                    refine x_eqI (s74 _ _ _ _ _ _ _ _ _ _) ?_
                    refine x_ic (j := 0) C dX3_home_173 174 rfl ?_
                    refine x_istore C dX3_home_174 176 rfl [_, _, _, _, _, _, _, _, _, _, _] (by decide) rfl rfl ?_
                    have hl : ∀ (j k : Nat), k + j = n → XX w κ (Zr w κ (Qv (trM I (hmT (I 513) n here ti sn dr re (x1, x2, x3, x4, x5, x6, x7, x8))) S J)) 0 0 176 [some (.ref 473), some (.int (nI n)), some (.int (nI here)), some (.int ti), some (.int sn), some (.int dr), some (.int re), some (.int m), some (.int (bz rs)), some (.int en), some (.int (nI k))] [] S (trM I (nI n, en, dr + m, re + bz rs, cpf x7 x5 k, cpf x8 x6 k, x7, x8)) J := by
                      intro j
                      induction j with
                      | zero =>
                        intro k hk
                        have hk : n = k := Eq.symm hk
                        subst hk
                        refine x_iload C dX3_home_176 178 rfl rfl ?_
                        refine x_iload_n C dX3_home_178 179 rfl rfl ?_
                        refine x_icmpgeN C dX3_home_179 182 216 rfl (by decide) (by omega) (by omega) (fun _ => ?_) (fun h179 => absurd h179 (by omega))
                        exact x_vret C dX3_home_216 (Nat.le_refl _) (Nat.le_refl _) (Qv_of (congrArg (trM I) (by unfold hmT; rw [show hmM (I 513) n here = m from hm, he2, show rsB sn m = rs from hr, if_pos (by unfold okH; simp [h20, h25, h36, h85, h94, e102, h111, e120, h132])]; rfl)))
                      | succ j ih =>
                        intro k hk
                        refine x_iload C dX3_home_176 178 rfl rfl ?_
                        refine x_iload_n C dX3_home_178 179 rfl rfl ?_
                        refine x_icmpgeN C dX3_home_179 182 216 rfl (by decide) (by omega) (by omega) (fun h179 => absurd h179 (by omega)) (fun _ => ?_)
                        refine x_aloadr_n C dX3_home_182 183 rfl rfl ?_
                        refine x_getr C fl_X3_148 (Or.inr ⟨_, rfl⟩) dX3_home_183 186 rfl hS.1 (twR_tripSight hS) ?_
                        refine x_iload C dX3_home_186 188 rfl rfl ?_
                        refine x_aloadr_n C dX3_home_188 189 rfl rfl ?_
                        refine x_getr C fl_X3_142 (Or.inr ⟨_, rfl⟩) dX3_home_189 192 rfl hS.1 (twR_gone hS) ?_
                        refine x_iload C dX3_home_192 194 rfl rfl ?_
                        refine x_iald C dX3_home_194 195 rfl (twA_gone hS) (twN_gone hS) rfl (by omega) (by decide) (show trM I (_, _, _, _, _, _, x7, _) 514 k = x7 k from rfl) ?_
                        refine x_iast C dX3_home_195 196 rfl (twA_tripSight hS) (twN_tripSight hS) rfl (by omega) (by decide) ?_
                        refine x_eqI ((s516 _ _ _ _ _ _ _ _ _ _ _).trans (congrArg (fun z => trM I (_, _, _, _, z, _, _, _)) (cpf_s x7 x5 k))) ?_
                        refine x_aloadr_n C dX3_home_196 197 rfl rfl ?_
                        refine x_getr C fl_X3_151 (Or.inr ⟨_, rfl⟩) dX3_home_197 200 rfl hS.1 (twR_tripBegins hS) ?_
                        refine x_iload C dX3_home_200 202 rfl rfl ?_
                        refine x_aloadr_n C dX3_home_202 203 rfl rfl ?_
                        refine x_getr C fl_X3_145 (Or.inr ⟨_, rfl⟩) dX3_home_203 206 rfl hS.1 (twR_begins hS) ?_
                        refine x_iload C dX3_home_206 208 rfl rfl ?_
                        refine x_iald C dX3_home_208 209 rfl (twA_begins hS) (twN_begins hS) rfl (by omega) (by decide) (show trM I (_, _, _, _, _, _, _, x8) 515 k = x8 k from rfl) ?_
                        refine x_iast C dX3_home_209 210 rfl (twA_tripBegins hS) (twN_tripBegins hS) rfl (by omega) (by decide) ?_
                        refine x_eqI ((s517 _ _ _ _ _ _ _ _ _ _ _).trans (congrArg (fun z => trM I (_, _, _, _, _, z, _, _)) (cpf_s x8 x6 k))) ?_
                        refine x_iinc C dX3_home_210 213 rfl [_, _, _, _, _, _, _, _, _, _, _] (nI_inc _) (by decide) rfl rfl rfl ?_
                        refine x_goto C dX3_home_213 176 (by decide) ?_
                        exact ih (k + 1) (by omega)
                    refine x_eqI ?_ (hl n 0 (Nat.zero_add _))
                    rw [cpf_0, cpf_0]
                  · exact x_vret C dX3_home_135 (Nat.le_refl _) (Nat.le_refl _) (Qv_of (congrArg (trM I) (by unfold hmT; rw [show hmM (I 513) n here = m from hm, he2, if_neg (by unfold okH; simp [h20, h25, h36, h85, h94, e102, h111, e120, h132])])))
        · exact x_vret C dX3_home_88 (Nat.le_refl _) (Nat.le_refl _) (Qv_of (congrArg (trM I) (by unfold hmT; rw [show hmM (I 513) n here = m from hm, he2, if_neg (by unfold okH; simp [h20, h25, h36, h85])])))
      · exact x_vret C dX3_home_39 (Nat.le_refl _) (Nat.le_refl _) (Qv_of (congrArg (trM I) (by unfold hmT; rw [show hmM (I 513) n here = m from hm, if_neg (by unfold okH; simp [h20, h25, h36])])))
end Tw18
theorem cnt_set {P Q : Nat → Bool} {s : Nat} (hq : ∀ i, Q i = (decide (i = s) || P i)) (hs : P s = false) : ∀ n, cnt Q n = cnt P n + (if s < n then 1 else 0)
  | 0 => rfl
  | n + 1 => by
    have ih := cnt_set hq hs n
    by_cases h : n = s
    · subst h
      have h1 : Q n = true := by rw [hq]; simp
      rw [cnt_t h1, cnt_f hs, ih]
      simp
    · have h1 : Q n = P n := by rw [hq]; simp [h]
      cases hP : P n with
      | true => rw [cnt_t (by rw [h1]; exact hP), cnt_t hP, ih]; by_cases h2 : s < n <;> simp [h2] <;> omega
      | false => rw [cnt_f (by rw [h1]; exact hP), cnt_f hP, ih]; by_cases h2 : s < n <;> simp [h2] <;> omega
/-- n sights are seen -/
def seenN (seen n : Nat) : Prop := seen < 128 ∧ cnt (fun i => seen.testBit (i + 1)) 6 = n
theorem seenN.le {seen n : Nat} (h : seenN seen n) : n ≤ 6 := h.2 ▸ cnt_le _ _
theorem seenN.add {seen n s : Nat} (h : seenN seen n) (h1 : 1 ≤ s) (h2 : s ≤ 6) (hb : seen.testBit s = false) : seenN (seen ||| 2 ^ s) (n + 1) := by
  refine ⟨or_lt (n := 7) h.1 (Nat.pow_lt_pow_right (by decide) (by omega)), ?_⟩
  rw [cnt_set (P := fun i => seen.testBit (i + 1)) (s := s - 1) (fun i => ?_) (by rw [show s - 1 + 1 = s by omega]; exact hb) 6, h.2, if_pos (by omega)]
  rw [Nat.testBit_or, Nat.testBit_two_pow]
  by_cases e : i = s - 1
  · subst e; simp [show s - 1 + 1 = s by omega]
  · simp [e, show ¬ s = i + 1 by omega]
section Tw18
variable {w : Wd} {l : Launch} {S : Sh} {I : Mi} {J : Ml}
theorem kX3_goesOn (hS : twS S) (hI : Tok I) : ∀ (f n here seen : Nat) (ti sn dr re : Int32) (x : TS), n + f = 7 → here ≤ 6 → seenN seen n → Ct w l yX3_goesOn cX3_goesOn 15 none (f + 2) 0 0 [.ref 473, .int (nI n), .int (nI here), .int (nI seen), .int ti, .int sn, .int dr, .int re] S (trM I x) J (Qv (trM I (trG (I 513) (I 510) (I 511) (I 512) (sN I) f n here seen ti sn dr re x)) S J) := by
  intro f
  induction f with
  | zero => intro n here seen ti sn dr re x h1 h2 h3; have := h3.le; omega
  | succ f ih =>
    intro n here seen ti sn dr re x h1 h2 h3
    have hs6 : sN I ≤ 6 := tk_s2 hI
    have hsN : I 473 63 = nI (sN I) := tk_s hI
    have hn6 := h3.le
    refine Ct.of [some _, some _, some _, some _, some _, some _, some _, some _, none, none, none, none, none, none, none] rfl (Nat.le_of_ble_eq_true rfl) (by decide) ?_
    intro κ hκ C
    subst hκ
    rw [trG]
    generalize hst : (fun s x => if trO (I 510) (I 511) (I 512) s seen (I 513 (7 * here + s)) (enT ti sn (I 513 (7 * here + s))) dr then
      trG (I 513) (I 510) (I 511) (I 512) (sN I) f (n + 1) s (seen ||| 2 ^ s) (bgT (I 510) s (enT ti sn (I 513 (7 * here + s))) + I 512 s) (snT sn (I 513 (7 * here + s)) (bgT (I 510) s (enT ti sn (I 513 (7 * here + s))) + I 512 s) (enT ti sn (I 513 (7 * here + s)))) (dr + I 513 (7 * here + s)) (re + bz (rsB sn (I 513 (7 * here + s)))) (pth n s (bgT (I 510) s (enT ti sn (I 513 (7 * here + s)))) x)
      else x) = step
    have hl : ∀ (j s : Nat), s + j = sN I → XX w κ (Zr w κ (Qv (trM I (trL step (sN I) (hmT (I 513) n here ti sn dr re x))) S J)) 0 0 17 [some (.ref 473), some (.int (nI n)), some (.int (nI here)), some (.int (nI seen)), some (.int ti), some (.int sn), some (.int dr), some (.int re), some (.int (nI (s + 1))), none, none, none, none, none, none] [] S (trM I (trL step s (hmT (I 513) n here ti sn dr re x))) J := by
      intro j
      induction j with
      | zero =>
        intro s hs
        have hs : sN I = s := Eq.symm hs
        subst hs
        refine x_iload C dX3_goesOn_17 19 rfl rfl ?_
        refine x_aloadr_n C dX3_goesOn_19 20 rfl rfl ?_
        refine x_geti C fl_X3_405 (Or.inl rfl) dX3_goesOn_20 23 rfl hS.1 ((trM_s I _ (by omega)).trans hsN) ?_
        refine x_icmpgtN C dX3_goesOn_23 26 249 rfl (by decide) (by omega) (by omega) (fun _ => ?_) (fun h23 => absurd h23 (by omega))
        exact x_vret C dX3_goesOn_249 (Nat.le_refl _) (Nat.le_refl _) (Qv_of rfl)
      | succ j ihs =>
        intro s hs
        have hstep : ∀ y, step (s + 1) y = _ := fun y => by rw [← hst]
        have hgo : trL step (s + 1) (hmT (I 513) n here ti sn dr re x) = step (s + 1) (trL step s (hmT (I 513) n here ti sn dr re x)) := rfl
        generalize hy : trL step s (hmT (I 513) n here ti sn dr re x) = y at *
        refine x_iload C dX3_goesOn_17 19 rfl rfl ?_
        refine x_aloadr_n C dX3_goesOn_19 20 rfl rfl ?_
        refine x_geti C fl_X3_405 (Or.inl rfl) dX3_goesOn_20 23 rfl hS.1 ((trM_s I _ (by omega)).trans hsN) ?_
        refine x_icmpgtN C dX3_goesOn_23 26 249 rfl (by decide) (by omega) (by omega) (fun h23 => absurd h23 (by omega)) (fun _ => ?_)
        refine x_aloadr_n C dX3_goesOn_26 27 rfl rfl ?_
        refine x_getr C fl_X3_139 (Or.inr ⟨_, rfl⟩) dX3_goesOn_27 30 rfl hS.1 (twR_way hS) ?_
        refine x_bip (j := 7) C dX3_goesOn_30 32 rfl (by decide) ?_
        refine x_iload_n C dX3_goesOn_32 33 rfl rfl ?_
        refine x_imul C dX3_goesOn_33 34 rfl (pk_mul _ _) ?_
        refine x_iload C dX3_goesOn_34 36 rfl rfl ?_
        refine x_iadd C dX3_goesOn_36 37 rfl (nI_add _ _) ?_
        refine x_iald C dX3_goesOn_37 38 rfl (twA_way hS) (twN_way hS) rfl (by omega) (by decide) (congrFun (trM_n I _ (b := 513) (by decide)) _) ?_
        refine x_istore C dX3_goesOn_38 40 rfl [_, _, _, _, _, _, _, _, _, _, _, _, _, _, _] (by decide) rfl rfl ?_
        generalize hm : I 513 (7 * here + (s + 1)) = m at *
        refine x_iload_n C dX3_goesOn_40 41 rfl rfl ?_
        refine x_iload C dX3_goesOn_41 43 rfl rfl ?_
        refine x_ishr C dX3_goesOn_43 44 rfl (nI_shrp _ _ (by have := h3.1; omega) (by omega)) ?_
        refine x_ic (j := 1) C dX3_goesOn_44 45 rfl ?_
        refine x_iand C dX3_goesOn_45 46 rfl (nI_bit _ _) ?_
        refine x_ic (j := 1) C dX3_goesOn_46 47 rfl ?_
        refine x_icmpeqN C dX3_goesOn_47 50 243 rfl (by decide) (by have := bit_lt seen (s + 1); omega) (by decide) (fun h47 => ?_) (fun h47 => ?_)
        · have e47 := (bit_1 _ _).mp h47
          have hsk : step (s + 1) y = y := by rw [← hst]; show (if _ then _ else _) = _; rw [if_neg (by unfold trO; rw [e47]; simp)]
          refine x_iinc C dX3_goesOn_243 246 rfl [_, _, _, _, _, _, _, _, _, _, _, _, _, _, _] (nI_inc _) (by decide) rfl rfl rfl ?_
          refine x_goto C dX3_goesOn_246 17 (by decide) ?_
          refine x_ls [some _, some _, some _, some _, some _, some _, some _, some _, some _, none, none, none, none, none, none] ⟨rfl, rfl, rfl, rfl, rfl, rfl, rfl, rfl, rfl, trivial⟩ ?_
          refine x_eqI ?_ (ihs (s + 1) (by omega))
          rw [hgo, hsk]
        · have e47 : seen.testBit (s + 1) = false := by cases e : seen.testBit (s + 1) with | false => rfl | true => exact absurd ((bit_1 _ _).mpr e) h47
          refine x_iload C dX3_goesOn_50 52 rfl rfl ?_
          refine x_ifeq C dX3_goesOn_52 55 243 rfl (by decide) (fun h52 => ?_) (fun h52 => ?_)
          · have hsk : step (s + 1) y = y := by rw [← hst]; show (if _ then _ else _) = _; rw [hm, if_neg (by unfold trO; simp [h52])]
            refine x_iinc C dX3_goesOn_243 246 rfl [_, _, _, _, _, _, _, _, _, _, _, _, _, _, _] (nI_inc _) (by decide) rfl rfl rfl ?_
            refine x_goto C dX3_goesOn_246 17 (by decide) ?_
            refine x_ls [some _, some _, some _, some _, some _, some _, some _, some _, some _, none, none, none, none, none, none] ⟨rfl, rfl, rfl, rfl, rfl, rfl, rfl, rfl, rfl, trivial⟩ ?_
            refine x_eqI ?_ (ihs (s + 1) (by omega))
            rw [hgo, hsk]
          · refine x_iload C dX3_goesOn_55 57 rfl rfl ?_
            refine x_iload C dX3_goesOn_57 59 rfl rfl ?_
            refine x_iadd C dX3_goesOn_59 60 rfl rfl ?_
            refine x_sip (j := 540) C dX3_goesOn_60 63 rfl (by decide) ?_
            refine x_icmple C dX3_goesOn_63 66 69 rfl (by decide) (fun h63 => ?_) (fun h63 => ?_)
            · refine x_iload C dX3_goesOn_69 71 rfl rfl ?_
              refine x_iload C dX3_goesOn_71 73 rfl rfl ?_
              refine x_iadd C dX3_goesOn_73 74 rfl rfl ?_
              refine x_sip (j := 270) C dX3_goesOn_74 77 rfl (by decide) ?_
              apply x_jNZ0 (pj := 85) (fun kt kf => x_icmple C dX3_goesOn_77 80 84 rfl (by decide) kt kf)
              case ht =>
                intro K
                refine x_ic (j := 0) C dX3_goesOn_84 85 rfl ?_
                exact K
              case hf =>
                intro K
                refine x_ic (j := 1) C dX3_goesOn_80 81 rfl ?_
                refine x_goto C dX3_goesOn_81 85 (by decide) ?_
                exact K
              refine x_istore C dX3_goesOn_85 87 rfl [_, _, _, _, _, _, _, _, _, _, _, _, _, _, _] (by decide) rfl rfl ?_
              generalize hr : decide (nI 270 < sn + m) = rs at *
              refine x_iload C dX3_goesOn_87 89 rfl rfl ?_
              refine x_iload C dX3_goesOn_89 91 rfl rfl ?_
              refine x_iadd C dX3_goesOn_91 92 rfl rfl ?_
              refine x_iload C dX3_goesOn_92 94 rfl rfl ?_
              apply x_jNN (pj := 103) (fun kt kf => x_ifeqZ C dX3_goesOn_94 97 102 rfl (by decide) (fun h => kt (by simp [h])) kf)
              case ht =>
                intro K
                refine x_ic (j := 0) C dX3_goesOn_102 103 rfl ?_
                exact K
              case hf =>
                intro K
                refine x_bip (j := 45) C dX3_goesOn_97 99 rfl (by decide) ?_
                refine x_goto C dX3_goesOn_99 103 (by decide) ?_
                exact K
              refine x_iadd C dX3_goesOn_103 104 rfl rfl ?_
              refine x_istore C dX3_goesOn_104 106 rfl [_, _, _, _, _, _, _, _, _, _, _, _, _, _, _] (by decide) rfl rfl ?_
              generalize hco : ti + m + nI (if rs = true then 45 else 0) = co at *
              have hco2 : enT ti sn m = co := by unfold enT rsB; rw [hr]; exact hco
              refine x_iload C dX3_goesOn_106 108 rfl rfl ?_
              refine x_aloadr_n C dX3_goesOn_108 109 rfl rfl ?_
              refine x_getr C fl_X3_130 (Or.inr ⟨_, rfl⟩) dX3_goesOn_109 112 rfl hS.1 (twR_opens hS) ?_
              refine x_iload C dX3_goesOn_112 114 rfl rfl ?_
              refine x_iald C dX3_goesOn_114 115 rfl (twA_opens hS) (twN_opens hS) rfl (by omega) (by decide) (congrFun (trM_n I _ (b := 510) (by decide)) _) ?_
              apply x_jN (pj := 130) (fun kt kf => x_icmpge C dX3_goesOn_115 118 128 rfl (by decide) kt kf)
              case ht =>
                intro K
                refine x_iload C dX3_goesOn_128 130 rfl rfl ?_
                exact K
              case hf =>
                intro K
                refine x_aloadr_n C dX3_goesOn_118 119 rfl rfl ?_
                refine x_getr C fl_X3_130 (Or.inr ⟨_, rfl⟩) dX3_goesOn_119 122 rfl hS.1 (twR_opens hS) ?_
                refine x_iload C dX3_goesOn_122 124 rfl rfl ?_
                refine x_iald C dX3_goesOn_124 125 rfl (twA_opens hS) (twN_opens hS) rfl (by omega) (by decide) (congrFun (trM_n I _ (b := 510) (by decide)) _) ?_
                refine x_goto C dX3_goesOn_125 130 (by decide) ?_
                exact K
              refine x_istore C dX3_goesOn_130 132 rfl [_, _, _, _, _, _, _, _, _, _, _, _, _, _, _] (by decide) rfl rfl ?_
              generalize hbg : (if co < I 510 (s + 1) then I 510 (s + 1) else co) = bg at *
              have hbg2 : bgT (I 510) (s + 1) co = bg := hbg
              refine x_iload C dX3_goesOn_132 134 rfl rfl ?_
              refine x_aloadr_n C dX3_goesOn_134 135 rfl rfl ?_
              refine x_getr C fl_X3_136 (Or.inr ⟨_, rfl⟩) dX3_goesOn_135 138 rfl hS.1 (twR_stay hS) ?_
              refine x_iload C dX3_goesOn_138 140 rfl rfl ?_
              refine x_iald C dX3_goesOn_140 141 rfl (twA_stay hS) (twN_stay hS) rfl (by omega) (by decide) (congrFun (trM_n I _ (b := 512) (by decide)) _) ?_
              refine x_iadd C dX3_goesOn_141 142 rfl rfl ?_
              refine x_istore C dX3_goesOn_142 144 rfl [_, _, _, _, _, _, _, _, _, _, _, _, _, _, _] (by decide) rfl rfl ?_
              refine x_iload C dX3_goesOn_144 146 rfl rfl ?_
              refine x_aloadr_n C dX3_goesOn_146 147 rfl rfl ?_
              refine x_getr C fl_X3_133 (Or.inr ⟨_, rfl⟩) dX3_goesOn_147 150 rfl hS.1 (twR_shuts hS) ?_
              refine x_iload C dX3_goesOn_150 152 rfl rfl ?_
              refine x_iald C dX3_goesOn_152 153 rfl (twA_shuts hS) (twN_shuts hS) rfl (by omega) (by decide) (congrFun (trM_n I _ (b := 511) (by decide)) _) ?_
              refine x_icmple C dX3_goesOn_153 156 159 rfl (by decide) (fun h153 => ?_) (fun h153 => ?_)
              · have hsk : step (s + 1) y = trG (I 513) (I 510) (I 511) (I 512) (sN I) f (n + 1) (s + 1) (seen ||| 2 ^ (s + 1)) (bg + I 512 (s + 1)) (snT sn m (bg + I 512 (s + 1)) co) (dr + m) (re + bz rs) (pth n (s + 1) bg y) := by
                  rw [← hst]
                  show (if _ then _ else _) = _
                  rw [hm, hco2, hbg2, show rsB sn m = rs from hr, if_pos (by unfold trO; rw [hbg2]; simp [e47, h52, h63, h153])]
                have hadd := h3.add (s := s + 1) (by omega) (by omega) e47
                have hn7 := hadd.le
                obtain ⟨y1, y2, y3, y4, y5, y6, y7, y8⟩ := y
                refine x_aloadr_n C dX3_goesOn_159 160 rfl rfl ?_
                refine x_getr C fl_X3_142 (Or.inr ⟨_, rfl⟩) dX3_goesOn_160 163 rfl hS.1 (twR_gone hS) ?_
                refine x_iload_n C dX3_goesOn_163 164 rfl rfl ?_
                refine x_iload C dX3_goesOn_164 166 rfl rfl ?_
                refine x_iast C dX3_goesOn_166 167 rfl (twA_gone hS) (twN_gone hS) rfl (by omega) (by decide) ?_
                refine x_eqI (s514 _ _ _ _ _ _ _ _ _ _ _) ?_
                refine x_aloadr_n C dX3_goesOn_167 168 rfl rfl ?_
                refine x_getr C fl_X3_145 (Or.inr ⟨_, rfl⟩) dX3_goesOn_168 171 rfl hS.1 (twR_begins hS) ?_
                refine x_iload_n C dX3_goesOn_171 172 rfl rfl ?_
                refine x_iload C dX3_goesOn_172 174 rfl rfl ?_
                refine x_iast C dX3_goesOn_174 175 rfl (twA_begins hS) (twN_begins hS) rfl (by omega) (by decide) ?_
                refine x_eqI (s515 _ _ _ _ _ _ _ _ _ _ _) ?_
                refine x_iload C dX3_goesOn_175 177 rfl rfl ?_
                apply x_jN (pj := 190) (fun kt kf => x_ifeqZ C dX3_goesOn_177 180 185 rfl (by decide) (fun h => kt (by simp [h])) kf)
                case ht =>
                  intro K
                  refine x_iload C dX3_goesOn_185 187 rfl rfl ?_
                  refine x_iload C dX3_goesOn_187 189 rfl rfl ?_
                  refine x_iadd C dX3_goesOn_189 190 rfl rfl ?_
                  exact K
                case hf =>
                  intro K
                  refine x_iload C dX3_goesOn_180 182 rfl rfl ?_
                  refine x_goto C dX3_goesOn_182 190 (by decide) ?_
                  exact K
                refine x_istore C dX3_goesOn_190 192 rfl [_, _, _, _, _, _, _, _, _, _, _, _, _, _, _] (by decide) rfl rfl ?_
                refine x_aloadr_n C dX3_goesOn_192 193 rfl rfl ?_
                refine x_iload_n C dX3_goesOn_193 194 rfl rfl ?_
                refine x_ic (j := 1) C dX3_goesOn_194 195 rfl ?_
                refine x_iadd C dX3_goesOn_195 196 rfl (nI_add _ _) ?_
                refine x_iload C dX3_goesOn_196 198 rfl rfl ?_
                refine x_iload_n C dX3_goesOn_198 199 rfl rfl ?_
                refine x_ic (j := 1) C dX3_goesOn_199 200 rfl ?_
                refine x_iload C dX3_goesOn_200 202 rfl rfl ?_
                refine x_ishl C dX3_goesOn_202 203 rfl (nI_shl1' _ (by omega)) ?_
                refine x_ior C dX3_goesOn_203 204 rfl (nI_or _ _) ?_
                refine x_iload C dX3_goesOn_204 206 rfl rfl ?_
                refine x_iload C dX3_goesOn_206 208 rfl rfl ?_
                refine x_iload C dX3_goesOn_208 210 rfl rfl ?_
                refine x_isub C dX3_goesOn_210 211 rfl rfl ?_
                refine x_bip (j := 45) C dX3_goesOn_211 213 rfl (by decide) ?_
                apply x_jP (pj := 222) (fun kt kf => x_icmplt C dX3_goesOn_213 216 220 rfl (by decide) kt kf)
                case ht =>
                  intro K
                  refine x_iload C dX3_goesOn_220 222 rfl rfl ?_
                  exact K
                case hf =>
                  intro K
                  refine x_ic (j := 0) C dX3_goesOn_216 217 rfl ?_
                  refine x_goto C dX3_goesOn_217 222 (by decide) ?_
                  exact K
                refine x_iload C dX3_goesOn_222 224 rfl rfl ?_
                refine x_iload C dX3_goesOn_224 226 rfl rfl ?_
                refine x_iadd C dX3_goesOn_226 227 rfl rfl ?_
                refine x_iload C dX3_goesOn_227 229 rfl rfl ?_
                refine x_iload C dX3_goesOn_229 231 rfl rfl ?_
                apply x_jb (pj := 239) (fun kt kf => x_ifeqZ C dX3_goesOn_231 234 238 rfl (by decide) kt kf)
                case ht =>
                  intro K
                  refine x_ic (j := 0) C dX3_goesOn_238 239 rfl ?_
                  exact K
                case hf =>
                  intro K
                  refine x_ic (j := 1) C dX3_goesOn_234 235 rfl ?_
                  refine x_goto C dX3_goesOn_235 239 (by decide) ?_
                  exact K
                refine x_iadd C dX3_goesOn_239 240 rfl rfl ?_
                refine x_callV C lk_X3_412 dX3_goesOn_240 243 rfl [_, _, _, _, _, _, _] [] rfl rfl hS.1 (Nat.le_of_ble_eq_true rfl) (by omega) (Nat.le_refl _) (Nat.le_refl _) (ih (n + 1) (s + 1) (seen ||| 2 ^ (s + 1)) _ _ _ _ _ (by omega) (by omega) hadd) ?_
                rintro _ _ _ _ ⟨rfl, rfl, rfl, rfl⟩
                refine x_iinc C dX3_goesOn_243 246 rfl [_, _, _, _, _, _, _, _, _, _, _, _, _, _, _] (nI_inc _) (by decide) rfl rfl rfl ?_
                refine x_goto C dX3_goesOn_246 17 (by decide) ?_
                refine x_ls [some _, some _, some _, some _, some _, some _, some _, some _, some _, none, none, none, none, none, none] ⟨rfl, rfl, rfl, rfl, rfl, rfl, rfl, rfl, rfl, trivial⟩ ?_
                refine x_eqI ?_ (ihs (s + 1) (by omega))
                rw [hgo, hsk]
                unfold snT pth
                rw [show rsB sn m = rs from hr]
              · have hsk : step (s + 1) y = y := by rw [← hst]; show (if _ then _ else _) = _; rw [hm, hco2, if_neg (by unfold trO; rw [hbg2]; simp [h153])]
                refine x_goto C dX3_goesOn_156 243 (by decide) ?_
                refine x_iinc C dX3_goesOn_243 246 rfl [_, _, _, _, _, _, _, _, _, _, _, _, _, _, _] (nI_inc _) (by decide) rfl rfl rfl ?_
                refine x_goto C dX3_goesOn_246 17 (by decide) ?_
                refine x_ls [some _, some _, some _, some _, some _, some _, some _, some _, some _, none, none, none, none, none, none] ⟨rfl, rfl, rfl, rfl, rfl, rfl, rfl, rfl, rfl, trivial⟩ ?_
                refine x_eqI ?_ (ihs (s + 1) (by omega))
                rw [hgo, hsk]
            · have hsk : step (s + 1) y = y := by rw [← hst]; show (if _ then _ else _) = _; rw [hm, if_neg (by unfold trO; simp [h63])]
              refine x_goto C dX3_goesOn_66 243 (by decide) ?_
              refine x_iinc C dX3_goesOn_243 246 rfl [_, _, _, _, _, _, _, _, _, _, _, _, _, _, _] (nI_inc _) (by decide) rfl rfl rfl ?_
              refine x_goto C dX3_goesOn_246 17 (by decide) ?_
              refine x_ls [some _, some _, some _, some _, some _, some _, some _, some _, some _, none, none, none, none, none, none] ⟨rfl, rfl, rfl, rfl, rfl, rfl, rfl, rfl, rfl, trivial⟩ ?_
              refine x_eqI ?_ (ihs (s + 1) (by omega))
              rw [hgo, hsk]
    refine x_aloadr_n C dX3_goesOn_0 1 rfl rfl ?_
    refine x_iload_n C dX3_goesOn_1 2 rfl rfl ?_
    refine x_iload_n C dX3_goesOn_2 3 rfl rfl ?_
    refine x_iload C dX3_goesOn_3 5 rfl rfl ?_
    refine x_iload C dX3_goesOn_5 7 rfl rfl ?_
    refine x_iload C dX3_goesOn_7 9 rfl rfl ?_
    refine x_iload C dX3_goesOn_9 11 rfl rfl ?_
    refine x_callV C lk_X3_408 dX3_goesOn_11 14 rfl [_, _, _, _, _, _] [] rfl rfl hS.1 (Nat.le_of_ble_eq_true rfl) (by omega) (Nat.le_refl _) (Nat.le_refl _) (kX3_home hS hn6 h2) ?_
    rintro _ _ _ _ ⟨rfl, rfl, rfl, rfl⟩
    refine x_ic (j := 1) C dX3_goesOn_14 15 rfl ?_
    refine x_istore C dX3_goesOn_15 17 rfl [_, _, _, _, _, _, _, _, _, _, _, _, _, _, _] (by decide) rfl rfl ?_
    exact hl (sN I) 0 (Nat.zero_add _)
end Tw18
