set_option maxRecDepth 100000
def f_X8_valueOf_j1 (sv : Nat → Int32) (wh : Int32) (wj : Nat) : (Int32) :=
  if wh = 0 then
    (sv 31)
  else
    if wh = 1 then
      (sv 30)
    else
      (sv ((10 + wj) - 2))
def f_X8_valueOf (sv : Nat → Int32) (wh : Int32) (wj : Nat) : Int32 :=
  let v5 := f_X8_valueOf_j1 sv wh wj
  v5
abbrev q_X8_valueOf (D : va_G) (k : KK) (sa : Nat) (sv : Nat → Int32) (wh : Int32) (wj : Nat) (A : Nat → Prop) : Array Value → State → Outcome → State → Prop := va_Qi (fun (r_ : Int32) (u : Int32) => r_ = u ∧ u = f_X8_valueOf sv wh wj) (bx D (fun u => [(sa, aI k 37 sv)]) A) A
abbrev rm_X8_valueOf : Room := { frames := 1, cells := 0, slots := 0, locals := 40 }
theorem xo_X8_valueOf : xok yX8_valueOf 2 := by unfold xok; decide +kernel
set_option maxHeartbeats 8000000 in
theorem m_X8_valueOf (l : Launch) (D : va_G) (k : KK) (sz : Nat) (sa : Nat) (sv : Nat → Int32) (wh : Int32) (wj : Nat) (hwh : wh = nI wj) (hw6 : wj ≤ 6) : Met l yX8_valueOf (ws_ yX8_valueOf cX8_valueOf 2 (some .int)) rm_X8_valueOf (pcx D k [.ref sa, .int wh] sz [(sa, aI k 37 sv)] (fun _ => True)) (q_X8_valueOf D k sa sv wh wj (va_A [(sa, aI k 37 sv)] sz)) 0 0 (va_A [(sa, aI k 37 sv)] sz) := by
  refine Met.start (Qc := q_X8_valueOf D k sa sv wh wj) (by decide) (Nat.le_of_ble_eq_true rfl) ?_
  intro p e s m below meth c A hx hb hr hlocks hml hown hin hts hg hP hD hA hAn hS hY hsz ls hl
  have hown : s.vm.findClass RX8 = some m.cls := hown
  have hl : lv_has ls 2 [(0, .ref sa), (1, .int wh)] := hl
  refine lv_iload_n hx hb dX8_valueOf_0 rfl (lv_at hl 1 rfl) ?_
  have Jn1 : ∀ (v5 : (Int32)) (H : Heap) (locs : List Loc) (ls : Array Slot), v5 = f_X8_valueOf_j1 sv wh wj → va_P D vwCl [(sa, aI k 37 sv)] H → va_D A [(sa, aI k 37 sv)] → va_S A s.heap H locs → lv_has ls 2 [(0, .ref sa), (1, .int wh)] → W p l e rm_X8_valueOf s m ([.ref sa, .int wh] : List Value).toArray below meth c H locs 0 0 (MQ below (q_X8_valueOf D k sa sv wh wj A) ([.ref sa, .int wh] : List Value).toArray s 0 0 A) (F0 m 31 ls [.int v5]) := by
    intro v5 H locs ls ev5 hP hD hS hl
    exact xret_i hx hb hr hlocks (Nat.le_of_ble_eq_true rfl) (Nat.le_of_ble_eq_true rfl) hS.2.2 dX8_valueOf_31 (fun t ht => ⟨⟨v5, v5, rfl, ⟨rfl, (by subst ev5; exact rfl)⟩, by rw [ht]; exact hP, hD⟩, hS.F ht⟩)
  refine lv_if_ne (tgt := 11) hx hb dX8_valueOf_1 (by decide) (fun c6 => ?_) (fun c6 => ?_)
  · refine lv_iload_n hx hb dX8_valueOf_11 rfl (lv_at hl 1 rfl) ?_
    refine lv_iconst (v := 1) hx hb dX8_valueOf_12 ci_1 ?_
    refine lv_icmp_ne (tgt := 23) hx hb dX8_valueOf_13 (by decide) (fun c7 => ?_) (fun c7 => ?_)
    · refine lv_aload_n hx hb dX8_valueOf_23 rfl (lv_at hl 0 rfl) ?_
      refine lv_bipush (v := 10) hx hb dX8_valueOf_24 cb_10 ?_
      refine lv_iload_n hx hb dX8_valueOf_26 rfl (lv_at hl 1 rfl) ?_
      refine lv_iadd hx hb dX8_valueOf_27 ?_
      refine lv_iconst (v := 2) hx hb dX8_valueOf_28 ci_2 ?_
      refine lv_isub hx hb dX8_valueOf_29 ?_
      refine xa_iald hx hb hg hP 0 rfl (xnsub (xnadd xl_10 hwh) xl_2 (by omega)) (by first | omega | exact Nat.lt_of_lt_of_le (Nat.mod_lt _ (by omega)) (by omega)) (by omega) dX8_valueOf_30 ?_
      exact Jn1 (sv ((10 + wj) - 2)) _ _ _ (by exact Eq.symm (Eq.trans (if_neg c6) (Eq.trans (if_neg c7) (rfl)))) hP hD hS (lv_sub hl [0, 1] rfl)
    · refine lv_aload_n hx hb dX8_valueOf_16 rfl (lv_at hl 0 rfl) ?_
      refine lv_bipush (v := 30) hx hb dX8_valueOf_17 cb_30 ?_
      refine xa_iald hx hb hg hP 0 rfl xl_30 (by first | omega | exact Nat.lt_of_lt_of_le (Nat.mod_lt _ (by omega)) (by omega)) (by omega) dX8_valueOf_19 ?_
      refine lv_goto (tgt := 31) hx hb dX8_valueOf_20 (by decide) ?_
      exact Jn1 (sv 30) _ _ _ (by exact Eq.symm (Eq.trans (if_neg c6) (Eq.trans (if_pos c7) (rfl)))) hP hD hS (lv_sub hl [0, 1] rfl)
  · refine lv_aload_n hx hb dX8_valueOf_4 rfl (lv_at hl 0 rfl) ?_
    refine lv_bipush (v := 31) hx hb dX8_valueOf_5 cb_31 ?_
    refine xa_iald hx hb hg hP 0 rfl xl_31 (by first | omega | exact Nat.lt_of_lt_of_le (Nat.mod_lt _ (by omega)) (by omega)) (by omega) dX8_valueOf_7 ?_
    refine lv_goto (tgt := 31) hx hb dX8_valueOf_8 (by decide) ?_
    exact Jn1 (sv 31) _ _ _ (by exact Eq.symm (Eq.trans (if_pos c6) (rfl))) hP hD hS (lv_sub hl [0, 1] rfl)

def f_X8_hourOf_j1 (on : Int32) (ot : Int32) (x1 : Int32) : (Int32) :=
  if x1 = on then
    ot
  else
    if x1 = ot then
      on
    else
      x1
def f_X8_hourOf (qH : Nat → Int32) (qW : Nat → Int32) (on : Int32) (ot : Int32) (xj : Nat) : Int32 :=
  let x1 := (qH xj)
  if 2 ≤ (qW xj) then
    let v7 := f_X8_hourOf_j1 on ot x1
    v7
  else
    x1
abbrev q_X8_hourOf (D : va_G) (k : KK) (o : Nat) (r : Nat → Nat) (mv : Value) (fr : Value) (I : Nat → Int32) (L : Nat → Int64) (qH : Nat → Int32) (qW : Nat → Int32) (x : Int32) (on : Int32) (ot : Int32) (xj : Nat) (A : Nat → Prop) : Array Value → State → Outcome → State → Prop := va_Qi (fun (r_ : Int32) (u : Int32) => r_ = u ∧ u = f_X8_hourOf qH qW on ot xj) (bx D (fun u => [(o, eMM r mv fr I L), ((r 24), aI k 24 qH), ((r 25), aI k 24 qW)]) A) A
abbrev rm_X8_hourOf : Room := { frames := 1, cells := 0, slots := 0, locals := 40 }
theorem xo_X8_hourOf : xok yX8_hourOf 3 := by unfold xok; decide +kernel
set_option maxHeartbeats 8000000 in
theorem m_X8_hourOf (l : Launch) (D : va_G) (k : KK) (sz : Nat) (o : Nat) (r : Nat → Nat) (mv : Value) (fr : Value) (I : Nat → Int32) (L : Nat → Int64) (qH : Nat → Int32) (qW : Nat → Int32) (x : Int32) (on : Int32) (ot : Int32) (xj : Nat) (hxj : x = nI xj) (hx24 : xj < 24) : Met l yX8_hourOf (ws_ yX8_hourOf cX8_hourOf 5 (some .int)) rm_X8_hourOf (pcx D k [.ref o, .int x, .int on, .int ot] sz [(o, eMM r mv fr I L), ((r 24), aI k 24 qH), ((r 25), aI k 24 qW)] (fun _ => True)) (q_X8_hourOf D k o r mv fr I L qH qW x on ot xj (va_A [(o, eMM r mv fr I L), ((r 24), aI k 24 qH), ((r 25), aI k 24 qW)] sz)) 0 0 (va_A [(o, eMM r mv fr I L), ((r 24), aI k 24 qH), ((r 25), aI k 24 qW)] sz) := by
  refine Met.start (Qc := q_X8_hourOf D k o r mv fr I L qH qW x on ot xj) (by decide) (Nat.le_of_ble_eq_true rfl) ?_
  intro p e s m below meth c A hx hb hr hlocks hml hown hin hts hg hP hD hA hAn hS hY hsz ls hl
  have hown : s.vm.findClass RX8 = some m.cls := hown
  have hl : lv_has ls 5 [(0, .ref o), (1, .int x), (2, .int on), (3, .int ot)] := hl
  refine lv_aload_n hx hb dX8_hourOf_0 rfl (lv_at hl 0 rfl) ?_
  refine va_get (D := D) (ci := 10) (v := .ref (r 24)) (C := RX8) (T := TX8) (N := 37) hx hb hts in_X8 hown hg.1 hP 0 rfl rfl 24 (Nat.le_of_ble_eq_true rfl) (hts _ q1165) (fun _ h9 => h9) rfl dX8_hourOf_1 ?_
  refine lv_iload_n hx hb dX8_hourOf_4 rfl (lv_at hl 1 rfl) ?_
  refine xa_iald hx hb hg hP 1 rfl hxj (by first | omega | exact Nat.lt_of_lt_of_le (Nat.mod_lt _ (by omega)) (by omega)) (by omega) dX8_hourOf_5 ?_
  refine lv_topi (fun x1 ex1 => ?_)
  refine lv_istore (lv' := [(4, .int x1), (0, .ref o), (1, .int x), (2, .int on), (3, .int ot)]) hx hb dX8_hourOf_6 hl (Nat.le_of_ble_eq_true rfl) rfl (fun ls hl => ?_)
  refine lv_aload_n hx hb dX8_hourOf_8 rfl (lv_at hl 1 rfl) ?_
  refine va_get (D := D) (ci := 10) (v := .ref (r 25)) (C := RX8) (T := TX8) (N := 37) hx hb hts in_X8 hown hg.1 hP 0 rfl rfl 25 (Nat.le_of_ble_eq_true rfl) (hts _ q1166) (fun _ h9 => h9) rfl dX8_hourOf_9 ?_
  refine lv_iload_n hx hb dX8_hourOf_12 rfl (lv_at hl 2 rfl) ?_
  refine xa_iald hx hb hg hP 2 rfl hxj (by first | omega | exact Nat.lt_of_lt_of_le (Nat.mod_lt _ (by omega)) (by omega)) (by omega) dX8_hourOf_13 ?_
  refine lv_iconst (v := 2) hx hb dX8_hourOf_14 ci_2 ?_
  refine lv_icmp_ge (tgt := 21) hx hb dX8_hourOf_15 (by decide) (fun c2 => ?_) (fun c2 => ?_)
  · refine lv_iload hx hb dX8_hourOf_21 (lv_at hl 0 rfl) ?_
    refine lv_iload_n hx hb dX8_hourOf_23 rfl (lv_at hl 3 rfl) ?_
    have Jn1 : ∀ (v7 : (Int32)) (H : Heap) (locs : List Loc) (ls : Array Slot), v7 = f_X8_hourOf_j1 on ot x1 → va_P D vwCl [(o, eMM r mv fr I L), ((r 24), aI k 24 qH), ((r 25), aI k 24 qW)] H → va_D A [(o, eMM r mv fr I L), ((r 24), aI k 24 qH), ((r 25), aI k 24 qW)] → va_S A s.heap H locs → lv_has ls 5 [(4, .int x1), (0, .ref o), (1, .int x), (2, .int on), (3, .int ot)] → W p l e rm_X8_hourOf s m ([.ref o, .int x, .int on, .int ot] : List Value).toArray below meth c H locs 0 0 (MQ below (q_X8_hourOf D k o r mv fr I L qH qW x on ot xj A) ([.ref o, .int x, .int on, .int ot] : List Value).toArray s 0 0 A) (F0 m 43 ls [.int v7]) := by
      intro v7 H locs ls ev7 hP hD hS hl
      exact xret_i hx hb hr hlocks (Nat.le_of_ble_eq_true rfl) (Nat.le_of_ble_eq_true rfl) hS.2.2 dX8_hourOf_43 (fun t ht => ⟨⟨v7, v7, rfl, ⟨rfl, (by subst ev7; subst ex1; exact Eq.symm (Eq.trans (if_pos c2) (rfl)))⟩, by rw [ht]; exact hP, hD⟩, hS.F ht⟩)
    refine lv_icmp_ne (tgt := 31) hx hb dX8_hourOf_24 (by decide) (fun c8 => ?_) (fun c8 => ?_)
    · refine lv_iload hx hb dX8_hourOf_31 (lv_at hl 0 rfl) ?_
      refine lv_iload_n hx hb dX8_hourOf_33 rfl (lv_at hl 4 rfl) ?_
      refine lv_icmp_ne (tgt := 41) hx hb dX8_hourOf_34 (by decide) (fun c9 => ?_) (fun c9 => ?_)
      · refine lv_iload hx hb dX8_hourOf_41 (lv_at hl 0 rfl) ?_
        exact Jn1 x1 _ _ _ (by exact Eq.symm (Eq.trans (if_neg c8) (Eq.trans (if_neg c9) (rfl)))) hP hD hS (lv_sub hl [0, 1, 2, 3, 4] rfl)
      · refine lv_iload_n hx hb dX8_hourOf_37 rfl (lv_at hl 3 rfl) ?_
        refine lv_goto (tgt := 43) hx hb dX8_hourOf_38 (by decide) ?_
        exact Jn1 on _ _ _ (by exact Eq.symm (Eq.trans (if_neg c8) (Eq.trans (if_pos c9) (rfl)))) hP hD hS (lv_sub hl [0, 1, 2, 3, 4] rfl)
    · refine lv_iload_n hx hb dX8_hourOf_27 rfl (lv_at hl 4 rfl) ?_
      refine lv_goto (tgt := 43) hx hb dX8_hourOf_28 (by decide) ?_
      exact Jn1 ot _ _ _ (by exact Eq.symm (Eq.trans (if_pos c8) (rfl))) hP hD hS (lv_sub hl [0, 1, 2, 3, 4] rfl)
  · refine lv_iload hx hb dX8_hourOf_18 (lv_at hl 0 rfl) ?_
    exact xret_i hx hb hr hlocks (Nat.le_of_ble_eq_true rfl) (Nat.le_of_ble_eq_true rfl) hS.2.2 dX8_hourOf_20 (fun t ht => ⟨⟨x1, x1, rfl, ⟨rfl, (by subst ex1; exact Eq.symm (Eq.trans (if_neg c2) (rfl)))⟩, by rw [ht]; exact hP, hD⟩, hS.F ht⟩)

def f_X8_begins_l24 (mtn : Nat → Int32) (fl : Int32) (i5 : Nat) (X5 : (Nat → Int32)) : (Nat → Int32) :=
  let x17 := (fl * (mtn i5))
  let f18 := upd X5 (0 + i5) x17
  f18
def f_X8_begins_l3  (i1 : Nat) (X1 : (Nat → Int32)) : (Nat → Int32) :=
  let f19 := upd X1 i1 0
  f19
def f_X8_begins (MI : Nat → Int32) (mtn : Nat → Int32) (sv : Nat → Int32) (te : Int32) (li : Int32) (fl : Int32) (nS : Nat) : (Nat → Int32) :=
  let X1 := itN (f_X8_begins_l3) 37 sv
  let X5 := itN (f_X8_begins_l24 mtn fl) nS X1
  let f12 := upd X5 25 te
  let x13 := ((li * (MI 4)) / 4)
  let f14 := upd f12 24 x13
  let x15 := ((MI 5) / 2)
  let f16 := upd f14 20 x15
  f16
abbrev q_X8_begins (D : va_G) (k : KK) (o : Nat) (r : Nat → Nat) (fr : Value) (I : Nat → Int32) (L : Nat → Int64) (ma : Nat) (mr : Nat → Nat) (MI : Nat → Int32) (mpr : Nat → Int32) (mbr : Nat → Int32) (mnx : Nat → Int32) (mhd : Nat → Int32) (mtn : Nat → Int32) (sa : Nat) (sv : Nat → Int32) (te : Int32) (li : Int32) (fl : Int32) (nS : Nat) (A : Nat → Prop) : Array Value → State → Outcome → State → Prop := va_Qv (fun (u : (Nat → Int32)) => u = f_X8_begins MI mtn sv te li fl nS) (bx D (fun u => [(o, eMM r (.ref ma) fr I L), (ma, eMI mr MI), ((mr 11), aI k 6 mpr), ((mr 12), aI k 5 mbr), ((mr 13), aI k 5 mnx), ((mr 14), aI k 4 mhd), ((mr 15), aI k 20 mtn), (sa, aI k 37 u)]) A) A
abbrev rm_X8_begins : Room := { frames := 1, cells := 0, slots := 0, locals := 40 }
theorem xo_X8_begins : xok yX8_begins 4 := by unfold xok; decide +kernel
set_option maxHeartbeats 8000000 in
theorem m_X8_begins (l : Launch) (D : va_G) (k : KK) (sz : Nat) (o : Nat) (r : Nat → Nat) (fr : Value) (I : Nat → Int32) (L : Nat → Int64) (ma : Nat) (mr : Nat → Nat) (MI : Nat → Int32) (mpr : Nat → Int32) (mbr : Nat → Int32) (mnx : Nat → Int32) (mhd : Nat → Int32) (mtn : Nat → Int32) (sa : Nat) (sv : Nat → Int32) (te : Int32) (li : Int32) (fl : Int32) (nS : Nat) (hmS : MI 8 = nI nS) (hS2 : 2 ≤ nS) (hS5 : nS ≤ 5) : Met l yX8_begins (ws_ yX8_begins cX8_begins 6 none) rm_X8_begins (pcx D k [.ref o, .ref sa, .int te, .int li, .int fl] sz [(o, eMM r (.ref ma) fr I L), (ma, eMI mr MI), ((mr 11), aI k 6 mpr), ((mr 12), aI k 5 mbr), ((mr 13), aI k 5 mnx), ((mr 14), aI k 4 mhd), ((mr 15), aI k 20 mtn), (sa, aI k 37 sv)] (fun _ => True)) (q_X8_begins D k o r fr I L ma mr MI mpr mbr mnx mhd mtn sa sv te li fl nS (va_A [(o, eMM r (.ref ma) fr I L), (ma, eMI mr MI), ((mr 11), aI k 6 mpr), ((mr 12), aI k 5 mbr), ((mr 13), aI k 5 mnx), ((mr 14), aI k 4 mhd), ((mr 15), aI k 20 mtn), (sa, aI k 37 sv)] sz)) 0 0 (va_A [(o, eMM r (.ref ma) fr I L), (ma, eMI mr MI), ((mr 11), aI k 6 mpr), ((mr 12), aI k 5 mbr), ((mr 13), aI k 5 mnx), ((mr 14), aI k 4 mhd), ((mr 15), aI k 20 mtn), (sa, aI k 37 sv)] sz) := by
  refine Met.start (Qc := q_X8_begins D k o r fr I L ma mr MI mpr mbr mnx mhd mtn sa sv te li fl nS) (by decide) (Nat.le_of_ble_eq_true rfl) ?_
  intro p e s m below meth c A hx hb hr hlocks hml hown hin hts hg hP hD hA hAn hS hY hsz ls hl
  have hown : s.vm.findClass RX8 = some m.cls := hown
  have hl : lv_has ls 6 [(0, .ref o), (1, .ref sa), (2, .int te), (3, .int li), (4, .int fl)] := hl
  refine lv_iconst (v := 0) hx hb dX8_begins_0 ci_0 ?_
  refine lv_istore (lv' := [(5, .int 0), (0, .ref o), (1, .ref sa), (2, .int te), (3, .int li), (4, .int fl)]) hx hb dX8_begins_1 hl (Nat.le_of_ble_eq_true rfl) rfl (fun ls hl => ?_)
  have loop1 : ∀ (n1 i1 : Nat) (X1 : (Nat → Int32)) (H : Heap) (locs : List Loc) (ls : Array Slot), i1 + n1 = 37 → X1 = itN (f_X8_begins_l3) i1 sv → va_P D vwCl [(o, eMM r (.ref ma) fr I L), (ma, eMI mr MI), ((mr 11), aI k 6 mpr), ((mr 12), aI k 5 mbr), ((mr 13), aI k 5 mnx), ((mr 14), aI k 4 mhd), ((mr 15), aI k 20 mtn), (sa, aI k 37 X1)] H → va_D A [(o, eMM r (.ref ma) fr I L), (ma, eMI mr MI), ((mr 11), aI k 6 mpr), ((mr 12), aI k 5 mbr), ((mr 13), aI k 5 mnx), ((mr 14), aI k 4 mhd), ((mr 15), aI k 20 mtn), (sa, aI k 37 X1)] → va_S A s.heap H locs → lv_has ls 6 [(5, .int (nI i1)), (0, .ref o), (1, .ref sa), (2, .int te), (3, .int li), (4, .int fl)] → W p l e rm_X8_begins s m ([.ref o, .ref sa, .int te, .int li, .int fl] : List Value).toArray below meth c H locs 0 0 (MQ below (q_X8_begins D k o r fr I L ma mr MI mpr mbr mnx mhd mtn sa sv te li fl nS A) ([.ref o, .ref sa, .int te, .int li, .int fl] : List Value).toArray s 0 0 A) (F0 m 3 ls []) := by
    intro n1
    induction n1 with
    | zero =>
      intro i1 X1 H locs ls hn1 eX1 hP hD hS hl
      have hi1 : i1 = 37 := by omega
      rw [hi1] at eX1
      refine lv_iload hx hb dX8_begins_3 (lv_at hl 0 rfl) ?_
      refine lv_bipush (v := 37) hx hb dX8_begins_5 cb_37 ?_
      refine lv_icmp_ge (tgt := 21) hx hb dX8_begins_7 (by decide) (fun _ => ?_) (fun c => absurd (xle_t xl_37 rfl (by omega) (by omega)) c)
      refine lv_iconst (v := 0) hx hb dX8_begins_21 ci_0 ?_
      refine lv_istore (lv' := [(5, .int 0), (0, .ref o), (1, .ref sa), (2, .int te), (3, .int li), (4, .int fl)]) hx hb dX8_begins_22 hl (Nat.le_of_ble_eq_true rfl) rfl (fun ls hl => ?_)
      have loop5 : ∀ (n5 i5 : Nat) (X5 : (Nat → Int32)) (H : Heap) (locs : List Loc) (ls : Array Slot), i5 + n5 = nS → X5 = itN (f_X8_begins_l24 mtn fl) i5 X1 → va_P D vwCl [(o, eMM r (.ref ma) fr I L), (ma, eMI mr MI), ((mr 11), aI k 6 mpr), ((mr 12), aI k 5 mbr), ((mr 13), aI k 5 mnx), ((mr 14), aI k 4 mhd), ((mr 15), aI k 20 mtn), (sa, aI k 37 X5)] H → va_D A [(o, eMM r (.ref ma) fr I L), (ma, eMI mr MI), ((mr 11), aI k 6 mpr), ((mr 12), aI k 5 mbr), ((mr 13), aI k 5 mnx), ((mr 14), aI k 4 mhd), ((mr 15), aI k 20 mtn), (sa, aI k 37 X5)] → va_S A s.heap H locs → lv_has ls 6 [(5, .int (nI i5)), (0, .ref o), (1, .ref sa), (2, .int te), (3, .int li), (4, .int fl)] → W p l e rm_X8_begins s m ([.ref o, .ref sa, .int te, .int li, .int fl] : List Value).toArray below meth c H locs 0 0 (MQ below (q_X8_begins D k o r fr I L ma mr MI mpr mbr mnx mhd mtn sa sv te li fl nS A) ([.ref o, .ref sa, .int te, .int li, .int fl] : List Value).toArray s 0 0 A) (F0 m 24 ls []) := by
        intro n5
        induction n5 with
        | zero =>
          intro i5 X5 H locs ls hn5 eX5 hP hD hS hl
          have hi5 : i5 = nS := by omega
          rw [hi5] at eX5
          refine lv_iload hx hb dX8_begins_24 (lv_at hl 0 rfl) ?_
          refine lv_aload_n hx hb dX8_begins_26 rfl (lv_at hl 1 rfl) ?_
          refine va_get (D := D) (ci := 10) (v := .ref ma) (C := RX8) (T := TX8) (N := 37) hx hb hts in_X8 hown hg.1 hP 0 rfl rfl 3 (Nat.le_of_ble_eq_true rfl) (hts _ q1144) (fun _ h9 => h9) rfl dX8_begins_27 ?_
          refine va_getN (D := D) (ci := 11) (v := .int (MI 8)) (C := RX13) (T := TX13) (N := 18) hx hb hts in_X13 hown hg.1 hP 1 rfl rfl 8 (Nat.le_of_ble_eq_true rfl) (nwF_191 hg) (fun _ h9 => h9) rfl dX8_begins_30 ?_
          refine lv_icmp_ge (tgt := 61) hx hb dX8_begins_33 (by decide) (fun _ => ?_) (fun c => absurd (xle_t hmS rfl (by omega) (by omega)) c)
          refine lv_aload_n hx hb dX8_begins_61 rfl (lv_at hl 2 rfl) ?_
          refine lv_bipush (v := 25) hx hb dX8_begins_62 cb_25 ?_
          refine lv_iload_n hx hb dX8_begins_64 rfl (lv_at hl 3 rfl) ?_
          refine xa_iast hx hb hg hP hD hS 7 rfl xl_25 (by omega) (by omega) dX8_begins_65 (fun f12 H locs ef12 hP hD hS => ?_)
          replace hP : va_P D vwCl [(o, eMM r (.ref ma) fr I L), (ma, eMI mr MI), ((mr 11), aI k 6 mpr), ((mr 12), aI k 5 mbr), ((mr 13), aI k 5 mnx), ((mr 14), aI k 4 mhd), ((mr 15), aI k 20 mtn), (sa, aI k 37 f12)] H := hP
          replace hD : va_D A [(o, eMM r (.ref ma) fr I L), (ma, eMI mr MI), ((mr 11), aI k 6 mpr), ((mr 12), aI k 5 mbr), ((mr 13), aI k 5 mnx), ((mr 14), aI k 4 mhd), ((mr 15), aI k 20 mtn), (sa, aI k 37 f12)] := hD
          refine lv_aload_n hx hb dX8_begins_66 rfl (lv_at hl 2 rfl) ?_
          refine lv_bipush (v := 24) hx hb dX8_begins_67 cb_24 ?_
          refine lv_iload_n hx hb dX8_begins_69 rfl (lv_at hl 4 rfl) ?_
          refine lv_aload_n hx hb dX8_begins_70 rfl (lv_at hl 1 rfl) ?_
          refine va_get (D := D) (ci := 10) (v := .ref ma) (C := RX8) (T := TX8) (N := 37) hx hb hts in_X8 hown hg.1 hP 0 rfl rfl 3 (Nat.le_of_ble_eq_true rfl) (hts _ q1144) (fun _ h9 => h9) rfl dX8_begins_71 ?_
          refine va_getN (D := D) (ci := 11) (v := .int (MI 4)) (C := RX13) (T := TX13) (N := 18) hx hb hts in_X13 hown hg.1 hP 1 rfl rfl 4 (Nat.le_of_ble_eq_true rfl) (nwF_183 hg) (fun _ h9 => h9) rfl dX8_begins_74 ?_
          refine lv_imul hx hb dX8_begins_77 ?_
          refine lv_iconst (v := 4) hx hb dX8_begins_78 ci_4 ?_
          refine lv_idiv hx hb dX8_begins_79 (by decide) ?_
          refine lv_topi (fun x13 ex13 => ?_)
          refine xa_iast hx hb hg hP hD hS 7 rfl xl_24 (by omega) (by omega) dX8_begins_80 (fun f14 H locs ef14 hP hD hS => ?_)
          replace hP : va_P D vwCl [(o, eMM r (.ref ma) fr I L), (ma, eMI mr MI), ((mr 11), aI k 6 mpr), ((mr 12), aI k 5 mbr), ((mr 13), aI k 5 mnx), ((mr 14), aI k 4 mhd), ((mr 15), aI k 20 mtn), (sa, aI k 37 f14)] H := hP
          replace hD : va_D A [(o, eMM r (.ref ma) fr I L), (ma, eMI mr MI), ((mr 11), aI k 6 mpr), ((mr 12), aI k 5 mbr), ((mr 13), aI k 5 mnx), ((mr 14), aI k 4 mhd), ((mr 15), aI k 20 mtn), (sa, aI k 37 f14)] := hD
          refine lv_aload_n hx hb dX8_begins_81 rfl (lv_at hl 2 rfl) ?_
          refine lv_bipush (v := 20) hx hb dX8_begins_82 cb_20 ?_
          refine lv_aload_n hx hb dX8_begins_84 rfl (lv_at hl 1 rfl) ?_
          refine va_get (D := D) (ci := 10) (v := .ref ma) (C := RX8) (T := TX8) (N := 37) hx hb hts in_X8 hown hg.1 hP 0 rfl rfl 3 (Nat.le_of_ble_eq_true rfl) (hts _ q1144) (fun _ h9 => h9) rfl dX8_begins_85 ?_
          refine va_getN (D := D) (ci := 11) (v := .int (MI 5)) (C := RX13) (T := TX13) (N := 18) hx hb hts in_X13 hown hg.1 hP 1 rfl rfl 5 (Nat.le_of_ble_eq_true rfl) (nwF_186 hg) (fun _ h9 => h9) rfl dX8_begins_88 ?_
          refine lv_iconst (v := 2) hx hb dX8_begins_91 ci_2 ?_
          refine lv_idiv hx hb dX8_begins_92 (by decide) ?_
          refine lv_topi (fun x15 ex15 => ?_)
          refine xa_iast hx hb hg hP hD hS 7 rfl xl_20 (by omega) (by omega) dX8_begins_93 (fun f16 H locs ef16 hP hD hS => ?_)
          replace hP : va_P D vwCl [(o, eMM r (.ref ma) fr I L), (ma, eMI mr MI), ((mr 11), aI k 6 mpr), ((mr 12), aI k 5 mbr), ((mr 13), aI k 5 mnx), ((mr 14), aI k 4 mhd), ((mr 15), aI k 20 mtn), (sa, aI k 37 f16)] H := hP
          replace hD : va_D A [(o, eMM r (.ref ma) fr I L), (ma, eMI mr MI), ((mr 11), aI k 6 mpr), ((mr 12), aI k 5 mbr), ((mr 13), aI k 5 mnx), ((mr 14), aI k 4 mhd), ((mr 15), aI k 20 mtn), (sa, aI k 37 f16)] := hD
          exact xret_v hx hb hr hlocks (Nat.le_of_ble_eq_true rfl) (Nat.le_of_ble_eq_true rfl) hS.2.2 dX8_begins_94 (fun t ht => ⟨⟨f16, rfl, (by subst ef16; subst ex15; subst ef14; subst ex13; subst ef12; subst eX5; subst eX1; exact rfl), by rw [ht]; exact hP, hD⟩, hS.F ht⟩)
        | succ n5 ih5 =>
          intro i5 X5 H locs ls hn5 eX5 hP hD hS hl
          have hi5 : i5 < nS := by omega
          refine lv_iload hx hb dX8_begins_24 (lv_at hl 0 rfl) ?_
          refine lv_aload_n hx hb dX8_begins_26 rfl (lv_at hl 1 rfl) ?_
          refine va_get (D := D) (ci := 10) (v := .ref ma) (C := RX8) (T := TX8) (N := 37) hx hb hts in_X8 hown hg.1 hP 0 rfl rfl 3 (Nat.le_of_ble_eq_true rfl) (hts _ q1144) (fun _ h9 => h9) rfl dX8_begins_27 ?_
          refine va_getN (D := D) (ci := 11) (v := .int (MI 8)) (C := RX13) (T := TX13) (N := 18) hx hb hts in_X13 hown hg.1 hP 1 rfl rfl 8 (Nat.le_of_ble_eq_true rfl) (nwF_191 hg) (fun _ h9 => h9) rfl dX8_begins_30 ?_
          refine lv_icmp_ge (tgt := 61) hx hb dX8_begins_33 (by decide) (fun c => absurd c (xle_f hmS rfl (by omega) (by omega))) (fun _ => ?_)
          refine lv_aload_n hx hb dX8_begins_36 rfl (lv_at hl 2 rfl) ?_
          refine lv_iconst (v := 0) hx hb dX8_begins_37 ci_0 ?_
          refine lv_iload hx hb dX8_begins_38 (lv_at hl 0 rfl) ?_
          refine lv_iadd hx hb dX8_begins_40 ?_
          refine lv_iload hx hb dX8_begins_41 (lv_at hl 5 rfl) ?_
          refine lv_aload_n hx hb dX8_begins_43 rfl (lv_at hl 1 rfl) ?_
          refine va_get (D := D) (ci := 10) (v := .ref ma) (C := RX8) (T := TX8) (N := 37) hx hb hts in_X8 hown hg.1 hP 0 rfl rfl 3 (Nat.le_of_ble_eq_true rfl) (hts _ q1144) (fun _ h9 => h9) rfl dX8_begins_44 ?_
          refine va_getN (D := D) (ci := 11) (v := .ref (mr 15)) (C := RX13) (T := TX13) (N := 18) hx hb hts in_X13 hown hg.1 hP 1 rfl rfl 15 (Nat.le_of_ble_eq_true rfl) (nwF_278 hg) (fun _ h9 => h9) rfl dX8_begins_47 ?_
          refine lv_iload hx hb dX8_begins_50 (lv_at hl 0 rfl) ?_
          refine xa_iald hx hb hg hP 6 rfl rfl (by first | omega | exact Nat.lt_of_lt_of_le (Nat.mod_lt _ (by omega)) (by omega)) (by omega) dX8_begins_52 ?_
          refine lv_imul hx hb dX8_begins_53 ?_
          refine lv_topi (fun x17 ex17 => ?_)
          refine xa_iast hx hb hg hP hD hS 7 rfl (xnadd xl_0 rfl) (by omega) (by omega) dX8_begins_54 (fun f18 H locs ef18 hP hD hS => ?_)
          replace hP : va_P D vwCl [(o, eMM r (.ref ma) fr I L), (ma, eMI mr MI), ((mr 11), aI k 6 mpr), ((mr 12), aI k 5 mbr), ((mr 13), aI k 5 mnx), ((mr 14), aI k 4 mhd), ((mr 15), aI k 20 mtn), (sa, aI k 37 f18)] H := hP
          replace hD : va_D A [(o, eMM r (.ref ma) fr I L), (ma, eMI mr MI), ((mr 11), aI k 6 mpr), ((mr 12), aI k 5 mbr), ((mr 13), aI k 5 mnx), ((mr 14), aI k 4 mhd), ((mr 15), aI k 20 mtn), (sa, aI k 37 f18)] := hD
          refine lv_iinc (v := (nI (i5 + 1))) (lv' := [(5, .int (nI (i5 + 1))), (0, .ref o), (1, .ref sa), (2, .int te), (3, .int li), (4, .int fl)]) hx hb dX8_begins_55 hl (k := 0) rfl (xinc1 _) (Nat.le_of_ble_eq_true rfl) rfl (fun ls hl => ?_)
          refine lv_goto (tgt := 24) hx hb dX8_begins_58 (by decide) ?_
          exact ih5 (i5 + 1) f18 _ _ _ (by omega) (Eq.trans (by subst ef18; subst ex17; exact rfl) (congrArg (f_X8_begins_l24 mtn fl i5) eX5)) hP hD hS (lv_sub hl [0, 1, 2, 3, 4, 5] rfl)
      exact loop5 nS 0 X1 _ _ _ (by omega) rfl hP hD hS (by have h := (lv_sub hl [0, 1, 2, 3, 4, 5] rfl); exact h)
    | succ n1 ih1 =>
      intro i1 X1 H locs ls hn1 eX1 hP hD hS hl
      have hi1 : i1 < 37 := by omega
      refine lv_iload hx hb dX8_begins_3 (lv_at hl 0 rfl) ?_
      refine lv_bipush (v := 37) hx hb dX8_begins_5 cb_37 ?_
      refine lv_icmp_ge (tgt := 21) hx hb dX8_begins_7 (by decide) (fun c => absurd c (xle_f xl_37 rfl (by omega) (by omega))) (fun _ => ?_)
      refine lv_aload_n hx hb dX8_begins_10 rfl (lv_at hl 2 rfl) ?_
      refine lv_iload hx hb dX8_begins_11 (lv_at hl 0 rfl) ?_
      refine lv_iconst (v := 0) hx hb dX8_begins_13 ci_0 ?_
      refine xa_iast hx hb hg hP hD hS 7 rfl rfl (by omega) (by omega) dX8_begins_14 (fun f19 H locs ef19 hP hD hS => ?_)
      replace hP : va_P D vwCl [(o, eMM r (.ref ma) fr I L), (ma, eMI mr MI), ((mr 11), aI k 6 mpr), ((mr 12), aI k 5 mbr), ((mr 13), aI k 5 mnx), ((mr 14), aI k 4 mhd), ((mr 15), aI k 20 mtn), (sa, aI k 37 f19)] H := hP
      replace hD : va_D A [(o, eMM r (.ref ma) fr I L), (ma, eMI mr MI), ((mr 11), aI k 6 mpr), ((mr 12), aI k 5 mbr), ((mr 13), aI k 5 mnx), ((mr 14), aI k 4 mhd), ((mr 15), aI k 20 mtn), (sa, aI k 37 f19)] := hD
      refine lv_iinc (v := (nI (i1 + 1))) (lv' := [(5, .int (nI (i1 + 1))), (0, .ref o), (1, .ref sa), (2, .int te), (3, .int li), (4, .int fl)]) hx hb dX8_begins_15 hl (k := 0) rfl (xinc1 _) (Nat.le_of_ble_eq_true rfl) rfl (fun ls hl => ?_)
      refine lv_goto (tgt := 3) hx hb dX8_begins_18 (by decide) ?_
      exact ih1 (i1 + 1) f19 _ _ _ (by omega) (Eq.trans (by subst ef19; exact rfl) (congrArg (f_X8_begins_l3 i1) eX1)) hP hD hS (lv_sub hl [0, 1, 2, 3, 4, 5] rfl)
  exact loop1 37 0 sv _ _ _ (by omega) rfl hP hD hS (by have h := (lv_sub hl [0, 1, 2, 3, 4, 5] rfl); exact h)

def f_X8_byProgram (MI : Nat → Int32) (mpr : Nat → Int32) (mbr : Nat → Int32) (mnx : Nat → Int32) (mhd : Nat → Int32) (mtn : Nat → Int32) (pR : Nat → Int32) (pW : Nat → Int32) (pO : Nat → Int32) (sv : Nat → Int32) (hj : Nat) (now : Nat) (po : Nat → Nat) (nP : Nat) (nS : Nat) : (Nat → Int32) :=
  let x1 := (pR hj)
  let f2 := upd sv 34 x1
  let x3 := (pW hj)
  let f4 := upd f2 35 x3
  let x5 := (pO hj)
  let f6 := upd f4 36 x5
  let u7 := f_X8_goes MI mpr mbr mnx mhd mtn f6 (po hj) nP now nS
  u7
abbrev q_X8_byProgram (D : va_G) (k : KK) (o : Nat) (r : Nat → Nat) (fr : Value) (I : Nat → Int32) (L : Nat → Int64) (ma : Nat) (mr : Nat → Nat) (MI : Nat → Int32) (mpr : Nat → Int32) (mbr : Nat → Int32) (mnx : Nat → Int32) (mhd : Nat → Int32) (mtn : Nat → Int32) (pR : Nat → Int32) (pW : Nat → Int32) (pO : Nat → Int32) (sa : Nat) (sv : Nat → Int32) (ho : Int32) (hj : Nat) (now : Nat) (po : Nat → Nat) (nP : Nat) (nS : Nat) (A : Nat → Prop) : Array Value → State → Outcome → State → Prop := va_Qv (fun (u : (Nat → Int32)) => u = f_X8_byProgram MI mpr mbr mnx mhd mtn pR pW pO sv hj now po nP nS) (bx D (fun u => [(o, eMM r (.ref ma) fr I L), (ma, eMI mr MI), ((mr 11), aI k 6 mpr), ((mr 12), aI k 5 mbr), ((mr 13), aI k 5 mnx), ((mr 14), aI k 4 mhd), ((mr 15), aI k 20 mtn), ((r 20), aI k 12 pR), ((r 21), aI k 12 pW), ((r 22), aI k 12 pO), (sa, aI k 37 u)]) A) A
abbrev rm_X8_byProgram : Room := { frames := 4, cells := 0, slots := 0, locals := 160 }
theorem xo_X8_byProgram : xok yX8_byProgram 2 := by unfold xok; decide +kernel
set_option maxHeartbeats 8000000 in
theorem m_X8_byProgram (l : Launch) (D : va_G) (k : KK) (sz : Nat) (o : Nat) (r : Nat → Nat) (fr : Value) (I : Nat → Int32) (L : Nat → Int64) (ma : Nat) (mr : Nat → Nat) (MI : Nat → Int32) (mpr : Nat → Int32) (mbr : Nat → Int32) (mnx : Nat → Int32) (mhd : Nat → Int32) (mtn : Nat → Int32) (pR : Nat → Int32) (pW : Nat → Int32) (pO : Nat → Int32) (sa : Nat) (sv : Nat → Int32) (ho : Int32) (hj : Nat) (now : Nat) (po : Nat → Nat) (nP : Nat) (nS : Nat) (hmS : MI 8 = nI nS) (hS2 : 2 ≤ nS) (hS5 : nS ≤ 5) (hpr : MI 7 = nI nP) (hP1 : 1 ≤ nP) (hP6 : nP ≤ 6) (hroom : ¬ MI 0 = 0) (hlife : ¬ MI 4 = 0) (hhd : ∀ j, j < 4 → ¬ 9 + mhd j = 0) (hpo : ∀ h, h < 12 → pO h = nI (po h) ∧ po h < 4) (hho : ho = nI hj) (hh12 : hj < 12) (hs27 : sv 27 = nI now) (hnb : now < 1000) : Met l yX8_byProgram (ws_ yX8_byProgram cX8_byProgram 3 none) rm_X8_byProgram (pcx D k [.ref o, .ref sa, .int ho] sz [(o, eMM r (.ref ma) fr I L), (ma, eMI mr MI), ((mr 11), aI k 6 mpr), ((mr 12), aI k 5 mbr), ((mr 13), aI k 5 mnx), ((mr 14), aI k 4 mhd), ((mr 15), aI k 20 mtn), ((r 20), aI k 12 pR), ((r 21), aI k 12 pW), ((r 22), aI k 12 pO), (sa, aI k 37 sv)] (fun _ => True)) (q_X8_byProgram D k o r fr I L ma mr MI mpr mbr mnx mhd mtn pR pW pO sa sv ho hj now po nP nS (va_A [(o, eMM r (.ref ma) fr I L), (ma, eMI mr MI), ((mr 11), aI k 6 mpr), ((mr 12), aI k 5 mbr), ((mr 13), aI k 5 mnx), ((mr 14), aI k 4 mhd), ((mr 15), aI k 20 mtn), ((r 20), aI k 12 pR), ((r 21), aI k 12 pW), ((r 22), aI k 12 pO), (sa, aI k 37 sv)] sz)) 0 0 (va_A [(o, eMM r (.ref ma) fr I L), (ma, eMI mr MI), ((mr 11), aI k 6 mpr), ((mr 12), aI k 5 mbr), ((mr 13), aI k 5 mnx), ((mr 14), aI k 4 mhd), ((mr 15), aI k 20 mtn), ((r 20), aI k 12 pR), ((r 21), aI k 12 pW), ((r 22), aI k 12 pO), (sa, aI k 37 sv)] sz) := by
  refine Met.start (Qc := q_X8_byProgram D k o r fr I L ma mr MI mpr mbr mnx mhd mtn pR pW pO sa sv ho hj now po nP nS) (by decide) (Nat.le_of_ble_eq_true rfl) ?_
  intro p e s m below meth c A hx hb hr hlocks hml hown hin hts hg hP hD hA hAn hS hY hsz ls hl
  have hown : s.vm.findClass RX8 = some m.cls := hown
  have hl : lv_has ls 3 [(0, .ref o), (1, .ref sa), (2, .int ho)] := hl
  refine lv_aload_n hx hb dX8_byProgram_0 rfl (lv_at hl 1 rfl) ?_
  refine lv_bipush (v := 34) hx hb dX8_byProgram_1 cb_34 ?_
  refine lv_aload_n hx hb dX8_byProgram_3 rfl (lv_at hl 0 rfl) ?_
  refine va_get (D := D) (ci := 10) (v := .ref (r 20)) (C := RX8) (T := TX8) (N := 37) hx hb hts in_X8 hown hg.1 hP 0 rfl rfl 20 (Nat.le_of_ble_eq_true rfl) (hts _ q1161) (fun _ h9 => h9) rfl dX8_byProgram_4 ?_
  refine lv_iload_n hx hb dX8_byProgram_7 rfl (lv_at hl 2 rfl) ?_
  refine xa_iald hx hb hg hP 7 rfl hho (by first | omega | exact Nat.lt_of_lt_of_le (Nat.mod_lt _ (by omega)) (by omega)) (by omega) dX8_byProgram_8 ?_
  refine lv_topi (fun x1 ex1 => ?_)
  refine xa_iast hx hb hg hP hD hS 10 rfl xl_34 (by omega) (by omega) dX8_byProgram_9 (fun f2 H locs ef2 hP hD hS => ?_)
  replace hP : va_P D vwCl [(o, eMM r (.ref ma) fr I L), (ma, eMI mr MI), ((mr 11), aI k 6 mpr), ((mr 12), aI k 5 mbr), ((mr 13), aI k 5 mnx), ((mr 14), aI k 4 mhd), ((mr 15), aI k 20 mtn), ((r 20), aI k 12 pR), ((r 21), aI k 12 pW), ((r 22), aI k 12 pO), (sa, aI k 37 f2)] H := hP
  replace hD : va_D A [(o, eMM r (.ref ma) fr I L), (ma, eMI mr MI), ((mr 11), aI k 6 mpr), ((mr 12), aI k 5 mbr), ((mr 13), aI k 5 mnx), ((mr 14), aI k 4 mhd), ((mr 15), aI k 20 mtn), ((r 20), aI k 12 pR), ((r 21), aI k 12 pW), ((r 22), aI k 12 pO), (sa, aI k 37 f2)] := hD
  refine lv_aload_n hx hb dX8_byProgram_10 rfl (lv_at hl 1 rfl) ?_
  refine lv_bipush (v := 35) hx hb dX8_byProgram_11 cb_35 ?_
  refine lv_aload_n hx hb dX8_byProgram_13 rfl (lv_at hl 0 rfl) ?_
  refine va_get (D := D) (ci := 10) (v := .ref (r 21)) (C := RX8) (T := TX8) (N := 37) hx hb hts in_X8 hown hg.1 hP 0 rfl rfl 21 (Nat.le_of_ble_eq_true rfl) (hts _ q1162) (fun _ h9 => h9) rfl dX8_byProgram_14 ?_
  refine lv_iload_n hx hb dX8_byProgram_17 rfl (lv_at hl 2 rfl) ?_
  refine xa_iald hx hb hg hP 8 rfl hho (by first | omega | exact Nat.lt_of_lt_of_le (Nat.mod_lt _ (by omega)) (by omega)) (by omega) dX8_byProgram_18 ?_
  refine lv_topi (fun x3 ex3 => ?_)
  refine xa_iast hx hb hg hP hD hS 10 rfl xl_35 (by omega) (by omega) dX8_byProgram_19 (fun f4 H locs ef4 hP hD hS => ?_)
  replace hP : va_P D vwCl [(o, eMM r (.ref ma) fr I L), (ma, eMI mr MI), ((mr 11), aI k 6 mpr), ((mr 12), aI k 5 mbr), ((mr 13), aI k 5 mnx), ((mr 14), aI k 4 mhd), ((mr 15), aI k 20 mtn), ((r 20), aI k 12 pR), ((r 21), aI k 12 pW), ((r 22), aI k 12 pO), (sa, aI k 37 f4)] H := hP
  replace hD : va_D A [(o, eMM r (.ref ma) fr I L), (ma, eMI mr MI), ((mr 11), aI k 6 mpr), ((mr 12), aI k 5 mbr), ((mr 13), aI k 5 mnx), ((mr 14), aI k 4 mhd), ((mr 15), aI k 20 mtn), ((r 20), aI k 12 pR), ((r 21), aI k 12 pW), ((r 22), aI k 12 pO), (sa, aI k 37 f4)] := hD
  refine lv_aload_n hx hb dX8_byProgram_20 rfl (lv_at hl 1 rfl) ?_
  refine lv_bipush (v := 36) hx hb dX8_byProgram_21 cb_36 ?_
  refine lv_aload_n hx hb dX8_byProgram_23 rfl (lv_at hl 0 rfl) ?_
  refine va_get (D := D) (ci := 10) (v := .ref (r 22)) (C := RX8) (T := TX8) (N := 37) hx hb hts in_X8 hown hg.1 hP 0 rfl rfl 22 (Nat.le_of_ble_eq_true rfl) (hts _ q1163) (fun _ h9 => h9) rfl dX8_byProgram_24 ?_
  refine lv_iload_n hx hb dX8_byProgram_27 rfl (lv_at hl 2 rfl) ?_
  refine xa_iald hx hb hg hP 9 rfl hho (by first | omega | exact Nat.lt_of_lt_of_le (Nat.mod_lt _ (by omega)) (by omega)) (by omega) dX8_byProgram_28 ?_
  refine lv_topi (fun x5 ex5 => ?_)
  refine xa_iast hx hb hg hP hD hS 10 rfl xl_36 (by omega) (by omega) dX8_byProgram_29 (fun f6 H locs ef6 hP hD hS => ?_)
  replace hP : va_P D vwCl [(o, eMM r (.ref ma) fr I L), (ma, eMI mr MI), ((mr 11), aI k 6 mpr), ((mr 12), aI k 5 mbr), ((mr 13), aI k 5 mnx), ((mr 14), aI k 4 mhd), ((mr 15), aI k 20 mtn), ((r 20), aI k 12 pR), ((r 21), aI k 12 pW), ((r 22), aI k 12 pO), (sa, aI k 37 f6)] H := hP
  replace hD : va_D A [(o, eMM r (.ref ma) fr I L), (ma, eMI mr MI), ((mr 11), aI k 6 mpr), ((mr 12), aI k 5 mbr), ((mr 13), aI k 5 mnx), ((mr 14), aI k 4 mhd), ((mr 15), aI k 20 mtn), ((r 20), aI k 12 pR), ((r 21), aI k 12 pW), ((r 22), aI k 12 pO), (sa, aI k 37 f6)] := hD
  refine lv_aload_n hx hb dX8_byProgram_30 rfl (lv_at hl 0 rfl) ?_
  refine lv_aload_n hx hb dX8_byProgram_31 rfl (lv_at hl 1 rfl) ?_
  refine xc_v (wc := [(o, eMM r (.ref ma) fr I L), (ma, eMI mr MI), ((mr 11), aI k 6 mpr), ((mr 12), aI k 5 mbr), ((mr 13), aI k 5 mnx), ((mr 14), aI k 4 mhd), ((mr 15), aI k 20 mtn), (sa, aI k 37 f6)]) (wr := [((r 20), aI k 12 pR), ((r 21), aI k 12 pW), ((r 22), aI k 12 pO)]) hP hD hS hA [0, 1, 2, 3, 4, 5, 6, 10] [7, 8, 9] rfl rfl rfl (by decide) (xrV ⟨hx, hb, hml, hown, hts⟩ hg (m_X8_goes l D k _ o r fr I L ma mr MI mpr mbr mnx mhd mtn sa f6 (po hj) nP now nS hmS hS2 hS5 ((hpo hj (by omega)).2) ((show f6 36 = pO hj by rw [ef6]; exact pk_us.trans ex5).trans (hpo hj (by omega)).1) ((show f6 27 = f4 27 by rw [ef6]; exact pk_un (by decide)).trans ((show f4 27 = f2 27 by rw [ef4]; exact pk_un (by decide)).trans ((show f2 27 = sv 27 by rw [ef2]; exact pk_un (by decide)).trans hs27))) hnb hpr hP1 hP6 hroom hlife (hhd _ (hpo hj (by omega)).2)) hP hD [0, 1, 2, 3, 4, 5, 6, 10] rfl rfl trivial (ci := 10) (q0 := 0) rfl rfl rfl q1518 q1520 qs64 q93 q1521 xo_X8_goes ⟨rfl, rfl⟩ ⟨Nat.le_of_ble_eq_true rfl, Nat.le_of_ble_eq_true rfl⟩ hl.1 (Nat.le_of_ble_eq_true rfl) dX8_byProgram_32 ⟨Nat.le_of_ble_eq_true rfl, Nat.le_of_ble_eq_true rfl⟩ rfl) (fun u7 H locs hw hP hD hS hk => ?_)
  have eu7 := hw
  replace hP : va_P D vwCl [(o, eMM r (.ref ma) fr I L), (ma, eMI mr MI), ((mr 11), aI k 6 mpr), ((mr 12), aI k 5 mbr), ((mr 13), aI k 5 mnx), ((mr 14), aI k 4 mhd), ((mr 15), aI k 20 mtn), ((r 20), aI k 12 pR), ((r 21), aI k 12 pW), ((r 22), aI k 12 pO), (sa, aI k 37 u7)] H := hP.sub [3, 4, 5, 6, 7, 8, 9, 0, 1, 2, 10] rfl
  replace hD : va_D A [(o, eMM r (.ref ma) fr I L), (ma, eMI mr MI), ((mr 11), aI k 6 mpr), ((mr 12), aI k 5 mbr), ((mr 13), aI k 5 mnx), ((mr 14), aI k 4 mhd), ((mr 15), aI k 20 mtn), ((r 20), aI k 12 pR), ((r 21), aI k 12 pW), ((r 22), aI k 12 pO), (sa, aI k 37 u7)] := hD.sub [3, 4, 5, 6, 7, 8, 9, 0, 1, 2, 10] (by decide) rfl
  exact xret_v hx hb hr hlocks (Nat.le_of_ble_eq_true rfl) (Nat.le_of_ble_eq_true rfl) hS.2.2 dX8_byProgram_35 (fun t ht => ⟨⟨u7, rfl, (by subst eu7; subst ef6; subst ex5; subst ef4; subst ex3; subst ef2; subst ex1; exact rfl), by rw [ht]; exact hP, hD⟩, hS.F ht⟩)
