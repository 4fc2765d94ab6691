/-! more rows: shifts, new arrays, stores of references -/
section Rows4
variable {w : Wd} {κ : Cx} {Z : State → Prop} {y : MethodName} {cc : ByteArray} {nL d mc ms : Nat} {rt : Option FieldType} {cs sl pc n : Nat} {L L' : List (Option Value)} {sk : List Value} {S : Sh} {I : Mi} {J : Ml}
theorem x_iushr (C : Cok w y cc nL rt d mc ms κ) {a b v : Int32} (hd : decode cc pc = .ok (.iushr, 1)) (n : Nat) (hn : pc + 1 = n) (hv : (a.toUInt32 >>> (b.toUInt32 &&& Int32.toUInt32 31)).toInt32 = v) (k : XX w κ Z cs sl n L (.int v :: sk) S I J) : XX w κ Z cs sl pc L (.int b :: .int a :: sk) S I J := by
  intro hp locs ls hR hL hl
  subst hn
  exact lv_iushr C.1 C.2.1 hd hv (k hp locs ls hR hL hl)
theorem x_ldcw (C : Cok w y cc nL rt d mc ms κ) {idx : Nat} {v : Int32} (hd : decode cc pc = .ok (.ldc_w idx, 3)) (n : Nat) (hn : pc + 3 = n) (hq : Cond.constant y.cls idx v ∈ lw_all) (k : XX w κ Z cs sl n L (.int v :: sk) S I J) : XX w κ Z cs sl pc L sk S I J := by
  intro hp locs ls hR hL hl
  subst hn
  exact lv_ldcw C.1 C.2.1 C.2.2.2.1 (C.2.2.2.2.1 _ hq) hd (k hp locs ls hR hL hl)
/-- Object.<init> -/
theorem x_obj (C : Cok w y cc nL rt d mc ms κ) {idx b : Nat} (hq : Cond.methodLink y.cls idx Lib.objectInit ∈ lw_all) (hd : decode cc pc = .ok (.invokespecial idx, 3)) (n : Nat) (hn : pc + 3 = n) (hroom : (sk.map fun v => v.category).sum ≤ 8) (hdd : 1 ≤ d) (k : XX w κ Z cs sl n L sk S I J) : XX w κ Z cs sl pc L (.ref b :: sk) S I J := by
  intro hp locs ls hR hL hl
  subst hn
  have k := k hp locs ls hR hL hl
  obtain ⟨p, l, e, R, s, m, args, below, meth, c⟩ := κ
  obtain ⟨hx, hb, hml, hown, hts, hK, -, -, hRm, -⟩ := C
  have hRm : R = rmx d mc ms := hRm
  have hl : LR w ls c.maxLocals L := hl
  have hrest : ((sk.map (cv w)).map fun v => v.category) = sk.map fun v => v.category := by
    rw [List.map_map]
    exact List.map_congr_left (fun v _ => cv_cat w v)
  exact W.objInit hx hb hown (hts _ hq) (hts _ q126) (hts _ q127) rfl (by exact hl.1) rfl hd (by rw [hRm]; exact hdd) (by rw [hRm, hrest]; show 2 * 0 + _ + 12 ≤ 41 * d; omega) k
theorem x_newa (C : Cok w y cc nL rt d mc ms κ) {atype : ArrayType} {N : Nat} (j : Nat) (hj : j < 4) (hty : newarray.typeOf atype = xAty j) (harr : Cond.arrayClass (xAty j) ∈ lw_all) (hd : decode cc pc = .ok (.newarray atype, 2)) (n : Nat) (hn : pc + 2 = n) (t : Nat) (ht : S.2.2.2 = t) (hb : t < 9999999) (hN : N ≤ 60000000) (hc : cs + 1 ≤ mc) (hs : sl + N ≤ ms)
    (kk : XX w κ Z (cs + 1) (sl + N) n L (.ref t :: sk) (newS S t (100 + j) N) (wr I t (fun _ => 0)) (wr J t (fun _ => 0))) : XX w κ Z cs sl pc L (.int (nI N) :: sk) S I J := by
  intro hp locs ls hR hL hl
  subst hn
  have kk := fun hp' h1 => kk hp' locs ls h1 hL hl
  obtain ⟨p, l, e, R, s, m, args, below, meth, c⟩ := κ
  obtain ⟨hx, hbc, -, hown, hts, hK, -, -, hRm, -⟩ := C
  have hx : p.tables.exec = Jvm.exec := hx
  have hbc : c.code = cc := hbc
  have hts : ∀ x ∈ lw_all, x.before args s = true := hts
  have hK : Kn w s := hK
  have hRm : R = rmx d mc ms := hRm
  have hsz : hp.size = wz w + t := by rw [hR.1, ht]
  have hrho : rho w t = wz w + t := by unfold rho; rw [if_pos (by omega)]
  have hcb : N * componentBytes (newarray.typeOf atype) ≤ 536870912 := by
    have : componentBytes (newarray.typeOf atype) ≤ 8 := by cases atype <;> decide
    calc N * componentBytes (newarray.typeOf atype) ≤ 60000000 * 8 := Nat.mul_le_mul hN this
      _ ≤ 536870912 := by decide
  have kk : ∀ (hp' : Heap), Rep w hp' (newS S t (100 + j) N) (wr I t (fun _ => 0)) (wr J t (fun _ => 0)) → W p l e R s m args below meth c hp' locs (cs + 1) (sl + N) Z (F0 m (pc + 2) ls (.ref (rho w t) :: sk.map (cv w))) := kk
  show W p l e R s m args below meth c hp locs cs sl Z (F0 m pc ls (.int (nI N) :: sk.map (cv w)))
  refine va_newaK hx hbc (by rw [hty]; exact hts _ harr) rfl hd rfl (nI_pos (by omega)) (nI_clamp (by omega)) hcb (by rw [hRm]; exact hc) (by rw [hRm]; exact hs) hsz fun H1 cA e1 z1 o1 hAr hNm => ?_
  have hcA : cA = w.2.2.2.1 j := by
    have h2 := (hK.arr j (by omega)).2
    rw [hty] at hNm
    have : j = 0 ∨ j = 1 ∨ j = 2 ∨ j = 3 := by omega
    rcases this with rfl | rfl | rfl | rfl <;> exact Option.some.inj (hNm.symm.trans h2)
  have hrep := hR.push (hp' := H1) (k := 100 + j) (n := N) ht hb z1 o1 ⟨fun q => by
      have q : va_up S.1 t (100 + j) t < 100 := q
      rw [va_up_self] at q
      omega, fun _ => by
      show H1[wz w + t]? = some (arrV (w.2.2.2.1 (va_up S.1 t (100 + j) t - 100)) (va_up S.2.1 t N t) (aV w (newS S t (100 + j) N) (wr I t (fun _ => 0)) (wr J t (fun _ => 0)) (va_up S.1 t (100 + j) t - 100) t))
      rw [va_up_self, va_up_self, show 100 + j - 100 = j by omega, e1, hcA]
      congr 2
      funext i
      rw [hty]
      unfold aV
      rw [wr_s, wr_s]
      have : j = 0 ∨ j = 1 ∨ j = 2 ∨ j = 3 := by omega
      rcases this with rfl | rfl | rfl | rfl <;> rfl⟩
  have := kk H1 hrep
  rw [hrho] at this
  exact this
theorem x_anew (C : Cok w y cc nL rt d mc ms κ) {idx N : Nat} {Cn : String} (j : Nat) (hj : 4 ≤ j ∧ j < 8) (hty : xAty j = .object Cn) (hao : Cn ∈ ["TourRooms$Person", "TourRooms$Town", "TourRooms$Room", "java/lang/Object"]) (hq : Cond.classLink y.cls idx Cn ∈ lw_all) (hd : decode cc pc = .ok (.anewarray idx, 3)) (n : Nat) (hn : pc + 3 = n) (t : Nat) (ht : S.2.2.2 = t) (hb : t < 9999999) (hN : N ≤ 60000000) (hc : cs + 1 ≤ mc) (hs : sl + N ≤ ms)
    (kk : XX w κ Z (cs + 1) (sl + N) n L (.ref t :: sk) (newS S t (100 + j) N) (wr I t (fun _ => 0)) (wr J t (fun _ => 0))) : XX w κ Z cs sl pc L (.int (nI N) :: sk) S I J := by
  intro hp locs ls hR hL hl
  subst hn
  have kk := fun hp' h1 => kk hp' locs ls h1 hL hl
  obtain ⟨p, l, e, R, s, m, args, below, meth, c⟩ := κ
  obtain ⟨hx, hbc, -, hown, hts, hK, -, -, hRm, -⟩ := C
  have hx : p.tables.exec = Jvm.exec := hx
  have hbc : c.code = cc := hbc
  have hown : s.vm.findClass y.cls = some m.cls := hown
  have hts : ∀ x ∈ lw_all, x.before args s = true := hts
  have hK : Kn w s := hK
  have hRm : R = rmx d mc ms := hRm
  have hsz : hp.size = wz w + t := by rw [hR.1, ht]
  have hrho : rho w t = wz w + t := by unfold rho; rw [if_pos (by omega)]
  have hAO := hK.2.2.2.2.2.1 Cn hao
  have kk : ∀ (hp' : Heap), Rep w hp' (newS S t (100 + j) N) (wr I t (fun _ => 0)) (wr J t (fun _ => 0)) → W p l e R s m args below meth c hp' locs (cs + 1) (sl + N) Z (F0 m (pc + 3) ls (.ref (rho w t) :: sk.map (cv w))) := kk
  show W p l e R s m args below meth c hp locs cs sl Z (F0 m pc ls (.int (nI N) :: sk.map (cv w)))
  have hcl : (nI N).toNatClampNeg = N := nI_clamp (by omega)
  refine W.anew hx hbc hown (hts _ hq) (va_AO.use hAO) rfl hd rfl (nI_pos (by omega)) (by rw [hcl]; omega) (by rw [hRm]; exact hc) (by rw [hRm, hcl]; exact hs) fun cA kA comp f1 f2 f3 f4 => ?_
  rw [hcl]
  generalize hH1 : hp.push ({ cls := cA, slots := Array.replicate N .null, vm := .none } : Cell) = H1
  have z1 : H1.size = wz w + t + 1 := by rw [← hH1, Array.size_push, hsz]
  have e1 : H1[wz w + t]? = some (arrV cA N (fun _ => .null)) := by rw [← hH1, ← hsz, Array.getElem?_push_size, ← arrV_new]
  have o1 : ∀ q : Nat, q < wz w + t → H1[q]? = hp[q]? := fun q hq => by rw [← hH1, Array.getElem?_push, if_neg (by omega)]
  have hcA : cA = w.2.2.2.1 j := by
    have h2 := (hK.arr j (by omega)).2
    rw [hty] at h2
    obtain ⟨kA', comp', -, -, -, h3⟩ := h2
    exact Option.some.inj (f1.symm.trans h3)
  have hrep := hR.push (hp' := H1) (k := 100 + j) (n := N) ht hb z1 o1 ⟨fun q => by
      have q : va_up S.1 t (100 + j) t < 100 := q
      rw [va_up_self] at q
      omega, fun _ => by
      show H1[wz w + t]? = some (arrV (w.2.2.2.1 (va_up S.1 t (100 + j) t - 100)) (va_up S.2.1 t N t) (aV w (newS S t (100 + j) N) (wr I t (fun _ => 0)) (wr J t (fun _ => 0)) (va_up S.1 t (100 + j) t - 100) t))
      rw [va_up_self, va_up_self, show 100 + j - 100 = j by omega, e1, hcA]
      congr 2
      funext i
      unfold aV
      rw [if_neg (by omega), if_neg (by omega)]
      show _ = cv w (va_rf (wr S.2.2.1 t (fun _ => none) t i))
      rw [wr_s]
      rfl⟩
  have := kk H1 hrep
  rw [hrho] at this
  rw [hsz]
  exact this
/-- a reference into an array -/
theorem x_aast (C : Cok w y cc nL rt d mc ms κ) {a N j t b ci : Nat} {Cn : String} {i : Int32} (hd : decode cc pc = .ok (.aastore, 1)) (n : Nat) (hn : pc + 1 = n) (hT : S.1 a = 100 + t) (ht : 4 ≤ t ∧ t < 8) (hN : S.2.1 a = N) (hi : i = nI j) (hj : j < N) (hN2 : N < 2147483648) (hV : S.1 b = ci) (hci : ci < 100) (hty : xAty t = .object Cn) (hca : ∃ q, xCl[ci]? = some q ∧ (q.1 = Cn ∨ (q.1, Cn) ∈ xNC))
    (kk : XX w κ Z cs sl n L sk (setR S a j (some b)) I J) : XX w κ Z cs sl pc L (.ref b :: .int i :: .ref a :: sk) S I J := by
  intro hp locs ls hR hL hl
  subst hn
  subst hi
  have hc := hR.arr (t := t) hT (by omega)
  rw [hN] at hc
  have hlt : b < S.2.2.2 := hR.lt hV (by omega)
  obtain ⟨r, hr, hOB⟩ := (hR.2.2.1 b hlt).1 (by omega)
  rw [hV] at hr hOB
  obtain ⟨q, hq1, hq2⟩ := hca
  cases hq1.symm.trans hr
  have hK := C.2.2.2.2.2.1
  have hKa := hK.arr t (by omega)
  rw [hty] at hKa
  obtain ⟨kA, comp, k1, k2, k3, -⟩ := hKa.2
  have hcls := (hK.1.1 ci _ hq1).2
  obtain ⟨kC, hkC, -⟩ := hcls.2
  obtain ⟨cell, g1, g2, g3, -⟩ := hOB
  have hassign : κ.2.2.2.2.1.vm.assignable cell.cls comp = true := by
    rw [g2]
    rcases hq2 with e | e
    · have : comp = w.2.1 ci := Option.some.inj (k3.symm.trans (by rw [← e]; exact hcls.1))
      rw [this]
      exact va_assign hcls
    · have hnw : va_Nw (.castable r.1 Cn) κ.2.2.2.2.1 := hK.2.2.2.2.1 _ e
      obtain ⟨c0, t0, f1, f2, f3⟩ := Cond.castable_spec (va_Nw.use (A := #[]) rfl hnw)
      have e0 : c0 = w.2.1 ci := Option.some.inj (f1.symm.trans hcls.1)
      have e1 : t0 = comp := Option.some.inj (f2.symm.trans k3)
      subst e0
      subst e1
      exact f3
  obtain ⟨kcomp, hkcomp, -⟩ := Vm.findClass_spec k3
  show W _ _ _ _ _ _ _ _ _ _ hp locs cs sl Z (F0 _ pc ls (.ref (rho w b) :: .int (nI j) :: .ref (rho w a) :: sk.map (cv w)))
  rw [rho_of hR hT (by omega), rho_of hR hV (by omega)]
  refine W.aast C.1 C.2.1 hc (fun q h => by cases h) (fun h => by cases h) k1 k2 rfl hkcomp ⟨nI_pos (by omega), by rw [arrV_size, nI_clamp (by omega)]; exact hj⟩ g1 (fun q h => by rw [g3] at h; cases h) (by rw [g2]; exact hkC) hassign rfl rfl hd fun H1 e1 e2 e3 => ?_
  rw [nI_clamp (by omega)] at e1 ⊢
  refine kk H1 _ ls (hR.aput (t := t) hT (by omega) hN hj rfl rfl rfl (fun z hz => ⟨sto_n S.2.2.1 j (some b) hz, rfl, rfl⟩) (fun i => ?_) e1 e2 e3) (locs_add hL) hl
  unfold updV aV
  rw [if_neg (by omega), if_neg (by omega)]
  show cv w (va_rf (sto S.2.2.1 a j (some b) a i)) = _
  by_cases h : i = j
  · subst h
    rw [if_pos rfl, sto_ss]
    show Value.ref (rho w b) = _
    rw [rho_of hR hV (by omega)]
  · rw [if_neg h, if_neg (by omega), if_neg (by omega), sto_kn _ _ _ _ h]
/-- checkcast of an object -/
theorem x_cast (C : Cok w y cc nL rt d mc ms κ) {a idx ci : Nat} {nm : String} (hq : Cond.classLink y.cls idx nm ∈ lw_all) (hd : decode cc pc = .ok (.checkcast idx, 3)) (n : Nat) (hn : pc + 3 = n) (hT : S.1 a = ci) (hci : ci < 100) (hca : ∃ q, xCl[ci]? = some q ∧ q.1 = nm) (kk : XX w κ Z cs sl n L (.ref a :: sk) S I J) : XX w κ Z cs sl pc L (.ref a :: sk) S I J := by
  intro hp locs ls hR hL hl
  subst hn
  have hlt : a < S.2.2.2 := hR.lt hT (by omega)
  obtain ⟨r, hr, hOB⟩ := (hR.2.2.1 a hlt).1 (by omega)
  rw [hT] at hr hOB
  obtain ⟨q, hq1, hq2⟩ := hca
  cases hq1.symm.trans hr
  have hK := C.2.2.2.2.2.1
  have hcls := (hK.1.1 ci _ hq1).2
  obtain ⟨cell, g1, g2, g3, -⟩ := hOB
  have kk := kk hp locs ls hR hL hl
  show W _ _ _ _ _ _ _ _ _ _ hp locs cs sl Z (F0 _ pc ls (.ref (rho w a) :: sk.map (cv w)))
  rw [rho_of hR hT (by omega)]
  have kk : W _ _ _ _ _ _ _ _ _ _ hp locs cs sl Z (F0 _ (pc + 3) ls (.ref (rho w a) :: sk.map (cv w))) := kk
  rw [rho_of hR hT (by omega)] at kk
  exact va_castS C.1 C.2.1 C.2.2.2.1 (C.2.2.2.2.1 _ hq) (cC := w.2.1 ci) (by rw [← hq2]; exact hcls) ⟨cell, g1, by rw [g3]; rfl, by rw [g2, ← hq2]; exact hcls.1⟩ hd kk
end Rows4
