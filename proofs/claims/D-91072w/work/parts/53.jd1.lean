/-! the JDK's numbers -/
section Jd1
variable {w : Wd} {l : Launch} {S : Sh} {I : Mi} {J : Ml}
end Jd1
section Jd0
variable {w : Wd} {κ : Cx} {Z : State → Prop} {y : MethodName} {cc : ByteArray} {nL d mc ms : Nat} {rt : Option FieldType} {cs sl pc n : Nat} {L L' : List (Option Value)} {sk : List Value} {S : Sh} {I : Mi} {J : Ml}
theorem x_mmax2 (C : Cok w y cc nL rt d mc ms κ) {idx : Nat} {a b : Int32} (hq : Cond.methodLink y.cls idx Lib.Math.max.name ∈ lw_all) (hs1 : Cond.static Lib.Math.max.name ∈ lw_all) (hcd : Cond.code Lib.Math.max.name Lib.Math.max.code 2 (some .int) ∈ lw_all) (hd : decode cc pc = .ok (.invokestatic idx, 3)) (n : Nat) (hn : pc + 3 = n) (hroom : (sk.map fun v => v.category).sum ≤ 8) (hdd : 1 ≤ d) (hc : cs ≤ mc) (hs : sl ≤ ms) (k : XX w κ Z cs sl n L (.int (if a < b then b else a) :: sk) S I J) : XX w κ Z cs sl pc L (.int b :: .int a :: sk) S I J := by
  intro hp locs ls hR hL hl
  subst hn
  have k := k hp locs ls hR hL hl
  obtain ⟨p, l, e, R, s, m, args, below, meth, c⟩ := κ
  obtain ⟨hx, hb, hml, hown, hts, hK, -, -, hRm, -⟩ := C
  have hRm : R = rmx d mc ms := hRm
  have hl : LR w ls c.maxLocals L := hl
  have hrest : ((sk.map (cv w)).map fun v => v.category) = sk.map fun v => v.category := by
    rw [List.map_map]
    exact List.map_congr_left (fun v _ => cv_cat w v)
  exact va_mmax hx hb hl.1.symm hown (hts _ hq) (hts _ hs1) (hts _ q96) (hts _ hcd) (by rw [hRm]; exact hdd) (by rw [hRm, hrest]; show _ + 13 ≤ 41 * d; omega) (by rw [hRm]; exact hc) (by rw [hRm]; exact hs) hd k
theorem x_mmin2 (C : Cok w y cc nL rt d mc ms κ) {idx : Nat} {a b : Int32} (hq : Cond.methodLink y.cls idx Lib.Math.min.name ∈ lw_all) (hs1 : Cond.static Lib.Math.min.name ∈ lw_all) (hcd : Cond.code Lib.Math.min.name Lib.Math.min.code 2 (some .int) ∈ lw_all) (hd : decode cc pc = .ok (.invokestatic idx, 3)) (n : Nat) (hn : pc + 3 = n) (hroom : (sk.map fun v => v.category).sum ≤ 8) (hdd : 1 ≤ d) (hc : cs ≤ mc) (hs : sl ≤ ms) (k : XX w κ Z cs sl n L (.int (if b < a then b else a) :: sk) S I J) : XX w κ Z cs sl pc L (.int b :: .int a :: sk) S I J := by
  intro hp locs ls hR hL hl
  subst hn
  have k := k hp locs ls hR hL hl
  obtain ⟨p, l, e, R, s, m, args, below, meth, c⟩ := κ
  obtain ⟨hx, hb, hml, hown, hts, hK, -, -, hRm, -⟩ := C
  have hRm : R = rmx d mc ms := hRm
  have hl : LR w ls c.maxLocals L := hl
  have hrest : ((sk.map (cv w)).map fun v => v.category) = sk.map fun v => v.category := by
    rw [List.map_map]
    exact List.map_congr_left (fun v _ => cv_cat w v)
  exact va_mmin hx hb hl.1.symm hown (hts _ hq) (hts _ hs1) (hts _ q96) (hts _ hcd) (by rw [hRm]; exact hdd) (by rw [hRm, hrest]; show _ + 13 ≤ 41 * d; omega) (by rw [hRm]; exact hc) (by rw [hRm]; exact hs) hd k
theorem x_mmaxL (C : Cok w y cc nL rt d mc ms κ) {idx : Nat} {a b : Int64} (hq : Cond.methodLink y.cls idx Lib.MathLoose.max_long.x ∈ lw_all) (hs1 : Cond.static Lib.MathLoose.max_long.x ∈ lw_all) (hcd : Cond.code Lib.MathLoose.max_long.x Lib.MathLoose.max_long.code 4 (some .long) ∈ lw_all) (hd : decode cc pc = .ok (.invokestatic idx, 3)) (n : Nat) (hn : pc + 3 = n) (hroom : (sk.map fun v => v.category).sum ≤ 8) (hdd : 1 ≤ d) (hc : cs ≤ mc) (hs : sl ≤ ms) (k : XX w κ Z cs sl n L (.long (if b < a then a else b) :: sk) S I J) : XX w κ Z cs sl pc L (.long b :: .long a :: sk) S I J := by
  intro hp locs ls hR hL hl
  subst hn
  have k := k hp locs ls hR hL hl
  obtain ⟨p, l, e, R, s, m, args, below, meth, c⟩ := κ
  obtain ⟨hx, hb, hml, hown, hts, hK, -, -, hRm, -⟩ := C
  have hRm : R = rmx d mc ms := hRm
  have hl : LR w ls c.maxLocals L := hl
  have hrest : ((sk.map (cv w)).map fun v => v.category) = sk.map fun v => v.category := by
    rw [List.map_map]
    exact List.map_congr_left (fun v _ => cv_cat w v)
  exact va_mmax_long hx hb hl.1.symm hown (hts _ hq) (hts _ hs1) (hts _ q96) (hts _ hcd) (by rw [hRm]; exact hdd) (by rw [hRm, hrest]; show _ + 15 ≤ 41 * d; omega) (by rw [hRm]; exact hc) (by rw [hRm]; exact hs) hd k
theorem x_mminL (C : Cok w y cc nL rt d mc ms κ) {idx : Nat} {a b : Int64} (hq : Cond.methodLink y.cls idx Lib.MathLoose.min_long.x ∈ lw_all) (hs1 : Cond.static Lib.MathLoose.min_long.x ∈ lw_all) (hcd : Cond.code Lib.MathLoose.min_long.x Lib.MathLoose.min_long.code 4 (some .long) ∈ lw_all) (hd : decode cc pc = .ok (.invokestatic idx, 3)) (n : Nat) (hn : pc + 3 = n) (hroom : (sk.map fun v => v.category).sum ≤ 8) (hdd : 1 ≤ d) (hc : cs ≤ mc) (hs : sl ≤ ms) (k : XX w κ Z cs sl n L (.long (if b < a then b else a) :: sk) S I J) : XX w κ Z cs sl pc L (.long b :: .long a :: sk) S I J := by
  intro hp locs ls hR hL hl
  subst hn
  have k := k hp locs ls hR hL hl
  obtain ⟨p, l, e, R, s, m, args, below, meth, c⟩ := κ
  obtain ⟨hx, hb, hml, hown, hts, hK, -, -, hRm, -⟩ := C
  have hRm : R = rmx d mc ms := hRm
  have hl : LR w ls c.maxLocals L := hl
  have hrest : ((sk.map (cv w)).map fun v => v.category) = sk.map fun v => v.category := by
    rw [List.map_map]
    exact List.map_congr_left (fun v _ => cv_cat w v)
  exact va_mmin_long hx hb hl.1.symm hown (hts _ hq) (hts _ hs1) (hts _ q96) (hts _ hcd) (by rw [hRm]; exact hdd) (by rw [hRm, hrest]; show _ + 15 ≤ 41 * d; omega) (by rw [hRm]; exact hc) (by rw [hRm]; exact hs) hd k
end Jd0
section Jd1
variable {w : Wd} {l : Launch} {S : Sh} {I : Mi} {J : Ml}
def ush (a : Int32) (k : Nat) : Int32 := (a.toUInt32 >>> ((nI k).toUInt32 &&& Int32.toUInt32 31)).toInt32
def bc1 (a : Int32) : Int32 := a - (ush a 1 &&& 1431655765)
def bc2 (a : Int32) : Int32 := (a &&& 858993459) + (ush a 2 &&& 858993459)
def bc3 (a : Int32) : Int32 := (a + ush a 4) &&& 252645135
def bc4 (a : Int32) : Int32 := a + ush a 8
def bc5 (a : Int32) : Int32 := a + ush a 16
theorem bc_ok : ∀ s : Fin 1024, bc5 (bc4 (bc3 (bc2 (bc1 (nI s.1))))) &&& nI 63 = nI (cnt s.1.testBit 10) := by decide +kernel
theorem kJ3_bitCount {s : Nat} (hs : s < 1024) : Ct w l yJ3_bitCount cJ3_bitCount 1 (some .int) 1 0 0 [.int (nI s)] S I J (Qe (some (.int (nI (cnt s.testBit 10)))) S I J) := by
  rw [← bc_ok ⟨s, hs⟩]
  refine Ct.of [some _] rfl (Nat.le_of_ble_eq_true rfl) (by decide) ?_
  intro κ hκ C
  subst hκ
  refine x_iload_n C dJ3_bitCount_0 1 rfl rfl ?_
  refine x_iload_n C dJ3_bitCount_1 2 rfl rfl ?_
  refine x_ic (j := 1) C dJ3_bitCount_2 3 rfl ?_
  refine x_iushr C dJ3_bitCount_3 4 rfl rfl ?_
  refine x_ldcw C dJ3_bitCount_4 7 rfl q520 ?_
  refine x_iand C dJ3_bitCount_7 8 rfl rfl ?_
  refine x_isub C dJ3_bitCount_8 9 rfl rfl ?_
  refine x_istore_n C dJ3_bitCount_9 10 rfl [_] (by decide) rfl rfl ?_
  refine x_iload_n C dJ3_bitCount_10 11 rfl rfl ?_
  refine x_ldcw C dJ3_bitCount_11 14 rfl q521 ?_
  refine x_iand C dJ3_bitCount_14 15 rfl rfl ?_
  refine x_iload_n C dJ3_bitCount_15 16 rfl rfl ?_
  refine x_ic (j := 2) C dJ3_bitCount_16 17 rfl ?_
  refine x_iushr C dJ3_bitCount_17 18 rfl rfl ?_
  refine x_ldcw C dJ3_bitCount_18 21 rfl q521 ?_
  refine x_iand C dJ3_bitCount_21 22 rfl rfl ?_
  refine x_iadd C dJ3_bitCount_22 23 rfl rfl ?_
  refine x_istore_n C dJ3_bitCount_23 24 rfl [_] (by decide) rfl rfl ?_
  refine x_iload_n C dJ3_bitCount_24 25 rfl rfl ?_
  refine x_iload_n C dJ3_bitCount_25 26 rfl rfl ?_
  refine x_ic (j := 4) C dJ3_bitCount_26 27 rfl ?_
  refine x_iushr C dJ3_bitCount_27 28 rfl rfl ?_
  refine x_iadd C dJ3_bitCount_28 29 rfl rfl ?_
  refine x_ldcw C dJ3_bitCount_29 32 rfl q522 ?_
  refine x_iand C dJ3_bitCount_32 33 rfl rfl ?_
  refine x_istore_n C dJ3_bitCount_33 34 rfl [_] (by decide) rfl rfl ?_
  refine x_iload_n C dJ3_bitCount_34 35 rfl rfl ?_
  refine x_iload_n C dJ3_bitCount_35 36 rfl rfl ?_
  refine x_bip (j := 8) C dJ3_bitCount_36 38 rfl (by decide) ?_
  refine x_iushr C dJ3_bitCount_38 39 rfl rfl ?_
  refine x_iadd C dJ3_bitCount_39 40 rfl rfl ?_
  refine x_istore_n C dJ3_bitCount_40 41 rfl [_] (by decide) rfl rfl ?_
  refine x_iload_n C dJ3_bitCount_41 42 rfl rfl ?_
  refine x_iload_n C dJ3_bitCount_42 43 rfl rfl ?_
  refine x_bip (j := 16) C dJ3_bitCount_43 45 rfl (by decide) ?_
  refine x_iushr C dJ3_bitCount_45 46 rfl rfl ?_
  refine x_iadd C dJ3_bitCount_46 47 rfl rfl ?_
  refine x_istore_n C dJ3_bitCount_47 48 rfl [_] (by decide) rfl rfl ?_
  refine x_iload_n C dJ3_bitCount_48 49 rfl rfl ?_
  refine x_bip (j := 63) C dJ3_bitCount_49 51 rfl (by decide) ?_
  refine x_iand C dJ3_bitCount_51 52 rfl rfl ?_
  exact x_iret C dJ3_bitCount_52 (Nat.le_refl _) (Nat.le_refl _) ⟨rfl, rfl, rfl, rfl⟩
/-- the first of a set -/
def lo (s : Nat) : Nat := runE (fun i => !s.testBit i) 10 0
def tz0 (a : Int32) : Int32 := (a ^^^ (-1)) &&& (a - nI 1)
def tzR (a n : Int32) : Int32 := n + ush a 1
theorem tz_ok : ∀ s : Fin 1024, ¬ s.1 = 0 → (if 0 < tz0 (nI s.1) then (if 65536 < tz0 (nI s.1) then (0 : Int32) else if nI 256 < tz0 (nI s.1) then (if nI 16 < ush (tz0 (nI s.1)) 8 then 0 else if nI 4 < ush (tz0 (nI s.1)) 8 then tzR (ush (ush (tz0 (nI s.1)) 8) 2) (nI 1 + Int32.ofInt 8 + Int32.ofInt 2) else tzR (ush (tz0 (nI s.1)) 8) (nI 1 + Int32.ofInt 8)) else if nI 16 < tz0 (nI s.1) then (if nI 4 < ush (tz0 (nI s.1)) 4 then tzR (ush (ush (tz0 (nI s.1)) 4) 2) (nI 1 + Int32.ofInt 4 + Int32.ofInt 2) else tzR (ush (tz0 (nI s.1)) 4) (nI 1 + Int32.ofInt 4)) else if nI 4 < tz0 (nI s.1) then tzR (ush (tz0 (nI s.1)) 2) (nI 1 + Int32.ofInt 2) else tzR (tz0 (nI s.1)) (nI 1)) else tz0 (nI s.1) &&& nI 32) = nI (lo s.1) := by decide +kernel
theorem tz_lt : ∀ s : Fin 1024, ¬ 65536 < tz0 (nI s.1) ∧ (nI 256 < tz0 (nI s.1) → ¬ nI 16 < ush (tz0 (nI s.1)) 8) := by decide +kernel
theorem kJ3_numberOfTrailingZeros {s : Nat} (hs : s < 1024) (h0 : ¬ s = 0) : Ct w l yJ3_numberOfTrailingZeros cJ3_numberOfTrailingZeros 2 (some .int) 1 0 0 [.int (nI s)] S I J (Qe (some (.int (nI (lo s)))) S I J) := by
  have hok := tz_ok ⟨s, hs⟩ h0
  have hlt := tz_lt ⟨s, hs⟩
  rw [← hok]
  refine Ct.of [some _, none] rfl (Nat.le_of_ble_eq_true rfl) (by decide) ?_
  intro κ hκ C
  subst hκ
  refine x_iload_n C dJ3_numberOfTrailingZeros_0 1 rfl rfl ?_
  refine x_icm C dJ3_numberOfTrailingZeros_1 2 rfl ?_
  refine x_ixor C dJ3_numberOfTrailingZeros_2 3 rfl rfl ?_
  refine x_iload_n C dJ3_numberOfTrailingZeros_3 4 rfl rfl ?_
  refine x_ic (j := 1) C dJ3_numberOfTrailingZeros_4 5 rfl ?_
  refine x_isub C dJ3_numberOfTrailingZeros_5 6 rfl rfl ?_
  refine x_iand C dJ3_numberOfTrailingZeros_6 7 rfl rfl ?_
  refine x_istore_n C dJ3_numberOfTrailingZeros_7 8 rfl [_, _] (by decide) rfl rfl ?_
  refine x_less [some (.int (tz0 (nI s))), none] (fun i v h => h) ?_
  generalize hg : tz0 (nI s) = a at *
  have hg23 := hlt.1
  refine x_iload_n C dJ3_numberOfTrailingZeros_8 9 rfl rfl ?_
  refine x_ifgt C dJ3_numberOfTrailingZeros_9 12 17 rfl (by decide) (fun h9 => ?_) (fun h9 => ?_)
  · refine x_ic (j := 1) C dJ3_numberOfTrailingZeros_17 18 rfl ?_
    refine x_istore_n C dJ3_numberOfTrailingZeros_18 19 rfl [_, _] (by decide) rfl rfl ?_
    refine x_iload_n C dJ3_numberOfTrailingZeros_19 20 rfl rfl ?_
    refine x_ldcw C dJ3_numberOfTrailingZeros_20 23 rfl q526 ?_
    refine x_icmple C dJ3_numberOfTrailingZeros_23 26 34 rfl (by decide) (fun _ => ?_) (fun h23 => absurd h23 (fun q => hlt.1 q))
    refine x_iload_n C dJ3_numberOfTrailingZeros_34 35 rfl rfl ?_
    refine x_sip (j := 256) C dJ3_numberOfTrailingZeros_35 38 rfl (by decide) ?_
    refine x_icmple C dJ3_numberOfTrailingZeros_38 41 49 rfl (by decide) (fun h38 => ?_) (fun h38 => ?_)
    · refine x_iload_n C dJ3_numberOfTrailingZeros_49 50 rfl rfl ?_
      refine x_bip (j := 16) C dJ3_numberOfTrailingZeros_50 52 rfl (by decide) ?_
      refine x_icmple C dJ3_numberOfTrailingZeros_52 55 62 rfl (by decide) (fun h52 => ?_) (fun h52 => ?_)
      · refine x_iload_n C dJ3_numberOfTrailingZeros_62 63 rfl rfl ?_
        refine x_ic (j := 4) C dJ3_numberOfTrailingZeros_63 64 rfl ?_
        refine x_icmple C dJ3_numberOfTrailingZeros_64 67 74 rfl (by decide) (fun h64 => ?_) (fun h64 => ?_)
        · refine x_iload_n C dJ3_numberOfTrailingZeros_74 75 rfl rfl ?_
          refine x_iload_n C dJ3_numberOfTrailingZeros_75 76 rfl rfl ?_
          refine x_ic (j := 1) C dJ3_numberOfTrailingZeros_76 77 rfl ?_
          refine x_iushr C dJ3_numberOfTrailingZeros_77 78 rfl rfl ?_
          refine x_iadd C dJ3_numberOfTrailingZeros_78 79 rfl rfl ?_
          exact x_iret C dJ3_numberOfTrailingZeros_79 (Nat.le_refl _) (Nat.le_refl _) (Qe_of (by simp [tzR, ush, hg23, h9, h38, h52, h64]))
        · refine x_iinc C dJ3_numberOfTrailingZeros_67 70 rfl [_, _] rfl (by decide) rfl rfl rfl ?_
          refine x_iload_n C dJ3_numberOfTrailingZeros_70 71 rfl rfl ?_
          refine x_ic (j := 2) C dJ3_numberOfTrailingZeros_71 72 rfl ?_
          refine x_iushr C dJ3_numberOfTrailingZeros_72 73 rfl rfl ?_
          refine x_istore_n C dJ3_numberOfTrailingZeros_73 74 rfl [_, _] (by decide) rfl rfl ?_
          refine x_iload_n C dJ3_numberOfTrailingZeros_74 75 rfl rfl ?_
          refine x_iload_n C dJ3_numberOfTrailingZeros_75 76 rfl rfl ?_
          refine x_ic (j := 1) C dJ3_numberOfTrailingZeros_76 77 rfl ?_
          refine x_iushr C dJ3_numberOfTrailingZeros_77 78 rfl rfl ?_
          refine x_iadd C dJ3_numberOfTrailingZeros_78 79 rfl rfl ?_
          exact x_iret C dJ3_numberOfTrailingZeros_79 (Nat.le_refl _) (Nat.le_refl _) (Qe_of (by simp [tzR, ush, hg23, h9, h38, h52, h64]))
      · refine x_iinc C dJ3_numberOfTrailingZeros_55 58 rfl [_, _] rfl (by decide) rfl rfl rfl ?_
        refine x_iload_n C dJ3_numberOfTrailingZeros_58 59 rfl rfl ?_
        refine x_ic (j := 4) C dJ3_numberOfTrailingZeros_59 60 rfl ?_
        refine x_iushr C dJ3_numberOfTrailingZeros_60 61 rfl rfl ?_
        refine x_istore_n C dJ3_numberOfTrailingZeros_61 62 rfl [_, _] (by decide) rfl rfl ?_
        refine x_iload_n C dJ3_numberOfTrailingZeros_62 63 rfl rfl ?_
        refine x_ic (j := 4) C dJ3_numberOfTrailingZeros_63 64 rfl ?_
        refine x_icmple C dJ3_numberOfTrailingZeros_64 67 74 rfl (by decide) (fun h64 => ?_) (fun h64 => ?_)
        · refine x_iload_n C dJ3_numberOfTrailingZeros_74 75 rfl rfl ?_
          refine x_iload_n C dJ3_numberOfTrailingZeros_75 76 rfl rfl ?_
          refine x_ic (j := 1) C dJ3_numberOfTrailingZeros_76 77 rfl ?_
          refine x_iushr C dJ3_numberOfTrailingZeros_77 78 rfl rfl ?_
          refine x_iadd C dJ3_numberOfTrailingZeros_78 79 rfl rfl ?_
          exact x_iret C dJ3_numberOfTrailingZeros_79 (Nat.le_refl _) (Nat.le_refl _) (Qe_of (by simp [tzR, ush, hg23, h9, h38, h52, h64]))
        · refine x_iinc C dJ3_numberOfTrailingZeros_67 70 rfl [_, _] rfl (by decide) rfl rfl rfl ?_
          refine x_iload_n C dJ3_numberOfTrailingZeros_70 71 rfl rfl ?_
          refine x_ic (j := 2) C dJ3_numberOfTrailingZeros_71 72 rfl ?_
          refine x_iushr C dJ3_numberOfTrailingZeros_72 73 rfl rfl ?_
          refine x_istore_n C dJ3_numberOfTrailingZeros_73 74 rfl [_, _] (by decide) rfl rfl ?_
          refine x_iload_n C dJ3_numberOfTrailingZeros_74 75 rfl rfl ?_
          refine x_iload_n C dJ3_numberOfTrailingZeros_75 76 rfl rfl ?_
          refine x_ic (j := 1) C dJ3_numberOfTrailingZeros_76 77 rfl ?_
          refine x_iushr C dJ3_numberOfTrailingZeros_77 78 rfl rfl ?_
          refine x_iadd C dJ3_numberOfTrailingZeros_78 79 rfl rfl ?_
          exact x_iret C dJ3_numberOfTrailingZeros_79 (Nat.le_refl _) (Nat.le_refl _) (Qe_of (by simp [tzR, ush, hg23, h9, h38, h52, h64]))
    · have h52 := hlt.2 h38
      unfold ush at h52
      refine x_iinc C dJ3_numberOfTrailingZeros_41 44 rfl [_, _] rfl (by decide) rfl rfl rfl ?_
      refine x_iload_n C dJ3_numberOfTrailingZeros_44 45 rfl rfl ?_
      refine x_bip (j := 8) C dJ3_numberOfTrailingZeros_45 47 rfl (by decide) ?_
      refine x_iushr C dJ3_numberOfTrailingZeros_47 48 rfl rfl ?_
      refine x_istore_n C dJ3_numberOfTrailingZeros_48 49 rfl [_, _] (by decide) rfl rfl ?_
      refine x_iload_n C dJ3_numberOfTrailingZeros_49 50 rfl rfl ?_
      refine x_bip (j := 16) C dJ3_numberOfTrailingZeros_50 52 rfl (by decide) ?_
      refine x_icmple C dJ3_numberOfTrailingZeros_52 55 62 rfl (by decide) (fun _ => ?_) (fun h52 => absurd h52 (hlt.2 h38))
      refine x_iload_n C dJ3_numberOfTrailingZeros_62 63 rfl rfl ?_
      refine x_ic (j := 4) C dJ3_numberOfTrailingZeros_63 64 rfl ?_
      refine x_icmple C dJ3_numberOfTrailingZeros_64 67 74 rfl (by decide) (fun h64 => ?_) (fun h64 => ?_)
      · refine x_iload_n C dJ3_numberOfTrailingZeros_74 75 rfl rfl ?_
        refine x_iload_n C dJ3_numberOfTrailingZeros_75 76 rfl rfl ?_
        refine x_ic (j := 1) C dJ3_numberOfTrailingZeros_76 77 rfl ?_
        refine x_iushr C dJ3_numberOfTrailingZeros_77 78 rfl rfl ?_
        refine x_iadd C dJ3_numberOfTrailingZeros_78 79 rfl rfl ?_
        exact x_iret C dJ3_numberOfTrailingZeros_79 (Nat.le_refl _) (Nat.le_refl _) (Qe_of (by simp [tzR, ush, hg23, h9, h38, h52, h64]))
      · refine x_iinc C dJ3_numberOfTrailingZeros_67 70 rfl [_, _] rfl (by decide) rfl rfl rfl ?_
        refine x_iload_n C dJ3_numberOfTrailingZeros_70 71 rfl rfl ?_
        refine x_ic (j := 2) C dJ3_numberOfTrailingZeros_71 72 rfl ?_
        refine x_iushr C dJ3_numberOfTrailingZeros_72 73 rfl rfl ?_
        refine x_istore_n C dJ3_numberOfTrailingZeros_73 74 rfl [_, _] (by decide) rfl rfl ?_
        refine x_iload_n C dJ3_numberOfTrailingZeros_74 75 rfl rfl ?_
        refine x_iload_n C dJ3_numberOfTrailingZeros_75 76 rfl rfl ?_
        refine x_ic (j := 1) C dJ3_numberOfTrailingZeros_76 77 rfl ?_
        refine x_iushr C dJ3_numberOfTrailingZeros_77 78 rfl rfl ?_
        refine x_iadd C dJ3_numberOfTrailingZeros_78 79 rfl rfl ?_
        exact x_iret C dJ3_numberOfTrailingZeros_79 (Nat.le_refl _) (Nat.le_refl _) (Qe_of (by simp [tzR, ush, hg23, h9, h38, h52, h64]))
  · refine x_iload_n C dJ3_numberOfTrailingZeros_12 13 rfl rfl ?_
    refine x_bip (j := 32) C dJ3_numberOfTrailingZeros_13 15 rfl (by decide) ?_
    refine x_iand C dJ3_numberOfTrailingZeros_15 16 rfl rfl ?_
    exact x_iret C dJ3_numberOfTrailingZeros_16 (Nat.le_refl _) (Nat.le_refl _) (Qe_of (by simp [tzR, ush, hg23, h9]))
end Jd1
