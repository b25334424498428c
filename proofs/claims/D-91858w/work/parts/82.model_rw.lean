set_option maxRecDepth 100000
def f_X8_readWhole_j1 (I : Nat → Int32) (x : Int32) (y : Int32) : (Int32) × (Int32) × (Int32) :=
  if (I 9) = 3 then
    let u15 := f_X8_in (I 12) x y
    if u15 = 0 then
      let u17 := f_X8_wrong I 4
      (u17.1, u17.2.1, u17.2.2)
    else
      ((I 9), (I 13), (I 14))
  else
    let u18 := f_X8_wrong I 1
    (u18.1, u18.2.1, u18.2.2)
def f_X8_readWhole (I : Nat → Int32) (L : Nat → Int64) (tp : Nat → Int32) (x : Int32) (y : Int32) (zj : Nat) : Int32 × Int32 × Int32 × Int32 × Int32 × Int32 × Int32 × Int32 × Int64 :=
  let v11 := f_X8_readWhole_j1 I x y
  let x12 := (I 12)
  let u13 := f_X8_next (upd (upd (upd I 9 v11.1) 13 v11.2.1) 14 v11.2.2) L tp zj
  (x12, u13.1, u13.2.1, u13.2.2.1, u13.2.2.2.1, u13.2.2.2.2.1, v11.2.1, v11.2.2, u13.2.2.2.2.2)
abbrev q_X8_readWhole (D : va_G) (k : KK) (o : Nat) (r : Nat → Nat) (mv : Value) (fr : Value) (I : Nat → Int32) (L : Nat → Int64) (tp : Nat → Int32) (x : Int32) (y : Int32) (zj : Nat) (A : Nat → Prop) : Array Value → State → Outcome → State → Prop := va_Qi (fun (r_ : Int32) (u : Int32 × Int32 × Int32 × Int32 × Int32 × Int32 × Int32 × Int32 × Int64) => r_ = u.1 ∧ u = f_X8_readWhole I L tp x y zj ∧ atz zj u.2.1) (bx D (fun u => [(o, eMM r mv fr (upd (upd (upd (upd (upd (upd (upd I 8 u.2.1) 9 u.2.2.1) 10 u.2.2.2.1) 11 u.2.2.2.2.1) 12 u.2.2.2.2.2.1) 13 u.2.2.2.2.2.2.1) 14 u.2.2.2.2.2.2.2.1) (vp_updL L 15 u.2.2.2.2.2.2.2.2)), ((r 5), aB k 700 tp)]) A) A
abbrev rm_X8_readWhole : Room := { frames := 3, cells := 0, slots := 0, locals := 120 }
theorem xo_X8_readWhole : xok yX8_readWhole 2 := by unfold xok; decide +kernel
set_option maxHeartbeats 8000000 in
theorem m_X8_readWhole (l : Launch) (D : va_G) (k : KK) (sz : Nat) (o : Nat) (r : Nat → Nat) (mv : Value) (fr : Value) (I : Nat → Int32) (L : Nat → Int64) (tp : Nat → Int32) (x : Int32) (y : Int32) (zj : Nat) (hzj : I 7 = nI zj) (hz7 : zj ≤ 700) (hat : atz zj (I 8)) : Met l yX8_readWhole (ws_ yX8_readWhole cX8_readWhole 4 (some .int)) rm_X8_readWhole (pcx D k [.ref o, .int x, .int y] sz [(o, eMM r mv fr I L), ((r 5), aB k 700 tp)] (fun _ => True)) (q_X8_readWhole D k o r mv fr I L tp x y zj (va_A [(o, eMM r mv fr I L), ((r 5), aB k 700 tp)] sz)) 0 0 (va_A [(o, eMM r mv fr I L), ((r 5), aB k 700 tp)] sz) := by
  refine Met.start (Qc := q_X8_readWhole D k o r mv fr I L tp x y zj) (by decide) (Nat.le_of_ble_eq_true rfl) ?_
  intro p e s m below meth c A hx hb hr hlocks hml hown hin hts hg hP hD hA hAn hS hY hsz ls hl
  have hown : s.vm.findClass RX8 = some m.cls := hown
  have hl : lv_has ls 4 [(0, .ref o), (1, .int x), (2, .int y)] := hl
  refine lv_aload_n hx hb dX8_readWhole_0 rfl (lv_at hl 0 rfl) ?_
  refine va_get (D := D) (ci := 10) (v := .int (I 9)) (C := RX8) (T := TX8) (N := 37) hx hb hts in_X8 hown hg.1 hP 0 rfl rfl 9 (Nat.le_of_ble_eq_true rfl) (hts _ q1150) (fun _ h9 => h9) rfl dX8_readWhole_1 ?_
  refine lv_iconst (v := 3) hx hb dX8_readWhole_4 ci_3 ?_
  have Jn1 : ∀ (v11 : (Int32) × (Int32) × (Int32)) (H : Heap) (locs : List Loc) (ls : Array Slot), v11 = f_X8_readWhole_j1 I x y → va_P D vwCl [(o, eMM r mv fr (upd (upd (upd I 9 v11.1) 13 v11.2.1) 14 v11.2.2) L), ((r 5), aB k 700 tp)] H → va_D A [(o, eMM r mv fr (upd (upd (upd I 9 v11.1) 13 v11.2.1) 14 v11.2.2) L), ((r 5), aB k 700 tp)] → va_S A s.heap H locs → lv_has ls 4 [(0, .ref o), (1, .int x), (2, .int y)] → W p l e rm_X8_readWhole s m ([.ref o, .int x, .int y] : List Value).toArray below meth c H locs 0 0 (MQ below (q_X8_readWhole D k o r mv fr I L tp x y zj A) ([.ref o, .int x, .int y] : List Value).toArray s 0 0 A) (F0 m 33 ls []) := by
    intro v11 H locs ls ev11 hP hD hS hl
    refine lv_aload_n hx hb dX8_readWhole_33 rfl (lv_at hl 0 rfl) ?_
    refine va_get (D := D) (ci := 10) (v := .int (I 12)) (C := RX8) (T := TX8) (N := 37) hx hb hts in_X8 hown hg.1 hP 0 rfl rfl 12 (Nat.le_of_ble_eq_true rfl) (hts _ q1153) (fun _ h9 => h9) rfl dX8_readWhole_34 ?_
    refine lv_topi (fun x12 ex12 => ?_)
    refine lv_istore_n (lv' := [(3, .int x12), (0, .ref o), (1, .int x), (2, .int y)]) hx hb dX8_readWhole_37 rfl hl (Nat.le_of_ble_eq_true rfl) rfl (fun ls hl => ?_)
    refine lv_aload_n hx hb dX8_readWhole_38 rfl (lv_at hl 1 rfl) ?_
    refine xc_v (wc := [(o, eMM r mv fr (upd (upd (upd I 9 v11.1) 13 v11.2.1) 14 v11.2.2) L), ((r 5), aB k 700 tp)]) (wr := []) hP hD hS hA [0, 1] [] rfl rfl rfl (by decide) (xrV ⟨hx, hb, hml, hown, hts⟩ hg (m_X8_next l D k _ o r mv fr (upd (upd (upd I 9 v11.1) 13 v11.2.1) 14 v11.2.2) L tp zj hzj hz7 hat) hP hD [0, 1] rfl rfl trivial (ci := 10) (q0 := 0) rfl rfl rfl q1342 q1344 qs40 q93 q1345 xo_X8_next ⟨rfl, rfl⟩ ⟨Nat.le_of_ble_eq_true rfl, Nat.le_of_ble_eq_true rfl⟩ hl.1 (Nat.le_of_ble_eq_true rfl) dX8_readWhole_39 ⟨Nat.le_of_ble_eq_true rfl, Nat.le_of_ble_eq_true rfl⟩ rfl) (fun u13 H locs hw hP hD hS hk => ?_)
    have eu13 := hw
    have pu13_at : atz zj u13.1 := by rw [eu13]; exact nx_at hzj hz7 hat
    replace hP : va_P D vwCl [(o, eMM r mv fr (upd (upd (upd (upd (upd (upd (upd I 13 v11.2.1) 14 v11.2.2) 8 u13.1) 9 u13.2.1) 10 u13.2.2.1) 11 u13.2.2.2.1) 12 u13.2.2.2.2.1) (vp_updL L 15 u13.2.2.2.2.2)), ((r 5), aB k 700 tp)] H := hP.sub [0, 1] rfl
    replace hD : va_D A [(o, eMM r mv fr (upd (upd (upd (upd (upd (upd (upd I 13 v11.2.1) 14 v11.2.2) 8 u13.1) 9 u13.2.1) 10 u13.2.2.1) 11 u13.2.2.2.1) 12 u13.2.2.2.2.1) (vp_updL L 15 u13.2.2.2.2.2)), ((r 5), aB k 700 tp)] := hD.sub [0, 1] (by decide) rfl
    refine lv_iload_n hx hb dX8_readWhole_42 rfl (lv_at hl 0 rfl) ?_
    exact xret_i hx hb hr hlocks (Nat.le_of_ble_eq_true rfl) (Nat.le_of_ble_eq_true rfl) hS.2.2 dX8_readWhole_43 (fun t ht => ⟨⟨x12, (x12, u13.1, u13.2.1, u13.2.2.1, u13.2.2.2.1, u13.2.2.2.2.1, v11.2.1, v11.2.2, u13.2.2.2.2.2), rfl, ⟨rfl, (by subst eu13; subst ex12; subst ev11; exact rfl), pu13_at⟩, by rw [ht]; exact hP, hD⟩, hS.F ht⟩)
  refine lv_icmp_eq (tgt := 16) hx hb dX8_readWhole_5 (by decide) (fun c14 => ?_) (fun c14 => ?_)
  · refine lv_aload_n hx hb dX8_readWhole_16 rfl (lv_at hl 0 rfl) ?_
    refine va_get (D := D) (ci := 10) (v := .int (I 12)) (C := RX8) (T := TX8) (N := 37) hx hb hts in_X8 hown hg.1 hP 0 rfl rfl 12 (Nat.le_of_ble_eq_true rfl) (hts _ q1153) (fun _ h9 => h9) rfl dX8_readWhole_17 ?_
    refine lv_iload_n hx hb dX8_readWhole_20 rfl (lv_at hl 1 rfl) ?_
    refine lv_iload_n hx hb dX8_readWhole_21 rfl (lv_at hl 2 rfl) ?_
    refine xc_i (wc := []) (wr := [(o, eMM r mv fr I L), ((r 5), aB k 700 tp)]) hP hD hS hA [] [0, 1] rfl rfl rfl (by decide) (xrS ⟨hx, hb, hml, hown, hts⟩ hg (m_X8_in l D k _ (I 12) x y) hP hD [] rfl rfl trivial q1426 q1427 q93 q1428 xo_X8_in ⟨rfl, rfl⟩ ⟨Nat.le_of_ble_eq_true rfl, Nat.le_of_ble_eq_true rfl⟩ hl.1 (Nat.le_of_ble_eq_true rfl) dX8_readWhole_22 ⟨Nat.le_of_ble_eq_true rfl, Nat.le_of_ble_eq_true rfl⟩ rfl) (fun u15 r_ H locs hw hP hD hS hk => ?_)
    obtain ⟨rfl, eu15, bu15⟩ := hw
    replace hP : va_P D vwCl [(o, eMM r mv fr I L), ((r 5), aB k 700 tp)] H := hP.sub [0, 1] rfl
    replace hD : va_D A [(o, eMM r mv fr I L), ((r 5), aB k 700 tp)] := hD.sub [0, 1] (by decide) rfl
    refine lv_if_ne (tgt := 33) hx hb dX8_readWhole_25 (by decide) (fun c16 => ?_) (fun c16 => ?_)
    · exact Jn1 ((I 9), (I 13), (I 14)) _ _ _ (by subst eu15; exact Eq.symm (Eq.trans (if_pos c14) (Eq.trans (if_neg c16) (rfl)))) hP hD hS (lv_sub hl [0, 1, 2] rfl)
    · refine lv_aload_n hx hb dX8_readWhole_28 rfl (lv_at hl 0 rfl) ?_
      refine lv_iconst (v := 4) hx hb dX8_readWhole_29 ci_4 ?_
      refine xc_v (wc := [(o, eMM r mv fr I L)]) (wr := [((r 5), aB k 700 tp)]) hP hD hS hA [0] [1] rfl rfl rfl (by decide) (xrV ⟨hx, hb, hml, hown, hts⟩ hg (m_X8_wrong l D k _ o r mv fr I L 4) hP hD [0] rfl rfl trivial (ci := 10) (q0 := 0) rfl rfl rfl q1409 q1411 qs47 q93 q1412 xo_X8_wrong ⟨rfl, rfl⟩ ⟨Nat.le_of_ble_eq_true rfl, Nat.le_of_ble_eq_true rfl⟩ hl.1 (Nat.le_of_ble_eq_true rfl) dX8_readWhole_30 ⟨Nat.le_of_ble_eq_true rfl, Nat.le_of_ble_eq_true rfl⟩ rfl) (fun u17 H locs hw hP hD hS hk => ?_)
      have eu17 := hw
      replace hP : va_P D vwCl [(o, eMM r mv fr (upd (upd (upd I 9 u17.1) 13 u17.2.1) 14 u17.2.2) L), ((r 5), aB k 700 tp)] H := hP.sub [1, 0] rfl
      replace hD : va_D A [(o, eMM r mv fr (upd (upd (upd I 9 u17.1) 13 u17.2.1) 14 u17.2.2) L), ((r 5), aB k 700 tp)] := hD.sub [1, 0] (by decide) rfl
      exact Jn1 (u17.1, u17.2.1, u17.2.2) _ _ _ (by subst eu17; subst eu15; exact Eq.symm (Eq.trans (if_pos c14) (Eq.trans (if_pos c16) (rfl)))) hP hD hS (lv_sub hl [0, 1, 2] rfl)
  · refine lv_aload_n hx hb dX8_readWhole_8 rfl (lv_at hl 0 rfl) ?_
    refine lv_iconst (v := 1) hx hb dX8_readWhole_9 ci_1 ?_
    refine xc_v (wc := [(o, eMM r mv fr I L)]) (wr := [((r 5), aB k 700 tp)]) hP hD hS hA [0] [1] rfl rfl rfl (by decide) (xrV ⟨hx, hb, hml, hown, hts⟩ hg (m_X8_wrong l D k _ o r mv fr I L 1) hP hD [0] rfl rfl trivial (ci := 10) (q0 := 0) rfl rfl rfl q1409 q1411 qs47 q93 q1412 xo_X8_wrong ⟨rfl, rfl⟩ ⟨Nat.le_of_ble_eq_true rfl, Nat.le_of_ble_eq_true rfl⟩ hl.1 (Nat.le_of_ble_eq_true rfl) dX8_readWhole_10 ⟨Nat.le_of_ble_eq_true rfl, Nat.le_of_ble_eq_true rfl⟩ rfl) (fun u18 H locs hw hP hD hS hk => ?_)
    have eu18 := hw
    replace hP : va_P D vwCl [(o, eMM r mv fr (upd (upd (upd I 9 u18.1) 13 u18.2.1) 14 u18.2.2) L), ((r 5), aB k 700 tp)] H := hP.sub [1, 0] rfl
    replace hD : va_D A [(o, eMM r mv fr (upd (upd (upd I 9 u18.1) 13 u18.2.1) 14 u18.2.2) L), ((r 5), aB k 700 tp)] := hD.sub [1, 0] (by decide) rfl
    refine lv_goto (tgt := 33) hx hb dX8_readWhole_13 (by decide) ?_
    exact Jn1 (u18.1, u18.2.1, u18.2.2) _ _ _ (by subst eu18; exact Eq.symm (Eq.trans (if_neg c14) (rfl))) hP hD hS (lv_sub hl [0, 1, 2] rfl)

def f_X8_once_j1 (I : Nat → Int32) (x : Int32) : (Int32) × (Int32) × (Int32) :=
  if x = 0 then
    ((I 9), (I 13), (I 14))
  else
    let u8 := f_X8_wrong I 3
    (u8.1, u8.2.1, u8.2.2)
def f_X8_once (I : Nat → Int32) (L : Nat → Int64) (tp : Nat → Int32) (x : Int32) (zj : Nat) : Int32 × Int32 × Int32 × Int32 × Int32 × Int32 × Int32 × Int64 :=
  let v5 := f_X8_once_j1 I x
  let u6 := f_X8_next (upd (upd (upd I 9 v5.1) 13 v5.2.1) 14 v5.2.2) L tp zj
  (u6.1, u6.2.1, u6.2.2.1, u6.2.2.2.1, u6.2.2.2.2.1, v5.2.1, v5.2.2, u6.2.2.2.2.2)
abbrev q_X8_once (D : va_G) (k : KK) (o : Nat) (r : Nat → Nat) (mv : Value) (fr : Value) (I : Nat → Int32) (L : Nat → Int64) (tp : Nat → Int32) (x : Int32) (zj : Nat) (A : Nat → Prop) : Array Value → State → Outcome → State → Prop := va_Qv (fun (u : Int32 × Int32 × Int32 × Int32 × Int32 × Int32 × Int32 × Int64) => u = f_X8_once I L tp x zj ∧ atz zj u.1) (bx D (fun u => [(o, eMM r mv fr (upd (upd (upd (upd (upd (upd (upd I 8 u.1) 9 u.2.1) 10 u.2.2.1) 11 u.2.2.2.1) 12 u.2.2.2.2.1) 13 u.2.2.2.2.2.1) 14 u.2.2.2.2.2.2.1) (vp_updL L 15 u.2.2.2.2.2.2.2)), ((r 5), aB k 700 tp)]) A) A
abbrev rm_X8_once : Room := { frames := 3, cells := 0, slots := 0, locals := 120 }
theorem xo_X8_once : xok yX8_once 1 := by unfold xok; decide +kernel
set_option maxHeartbeats 8000000 in
theorem m_X8_once (l : Launch) (D : va_G) (k : KK) (sz : Nat) (o : Nat) (r : Nat → Nat) (mv : Value) (fr : Value) (I : Nat → Int32) (L : Nat → Int64) (tp : Nat → Int32) (x : Int32) (zj : Nat) (hzj : I 7 = nI zj) (hz7 : zj ≤ 700) (hat : atz zj (I 8)) : Met l yX8_once (ws_ yX8_once cX8_once 2 none) rm_X8_once (pcx D k [.ref o, .int x] sz [(o, eMM r mv fr I L), ((r 5), aB k 700 tp)] (fun _ => True)) (q_X8_once D k o r mv fr I L tp x zj (va_A [(o, eMM r mv fr I L), ((r 5), aB k 700 tp)] sz)) 0 0 (va_A [(o, eMM r mv fr I L), ((r 5), aB k 700 tp)] sz) := by
  refine Met.start (Qc := q_X8_once D k o r mv fr I L tp x zj) (by decide) (Nat.le_of_ble_eq_true rfl) ?_
  intro p e s m below meth c A hx hb hr hlocks hml hown hin hts hg hP hD hA hAn hS hY hsz ls hl
  have hown : s.vm.findClass RX8 = some m.cls := hown
  have hl : lv_has ls 2 [(0, .ref o), (1, .int x)] := hl
  refine lv_iload_n hx hb dX8_once_0 rfl (lv_at hl 1 rfl) ?_
  have Jn1 : ∀ (v5 : (Int32) × (Int32) × (Int32)) (H : Heap) (locs : List Loc) (ls : Array Slot), v5 = f_X8_once_j1 I x → va_P D vwCl [(o, eMM r mv fr (upd (upd (upd I 9 v5.1) 13 v5.2.1) 14 v5.2.2) L), ((r 5), aB k 700 tp)] H → va_D A [(o, eMM r mv fr (upd (upd (upd I 9 v5.1) 13 v5.2.1) 14 v5.2.2) L), ((r 5), aB k 700 tp)] → va_S A s.heap H locs → lv_has ls 2 [(0, .ref o), (1, .int x)] → W p l e rm_X8_once s m ([.ref o, .int x] : List Value).toArray below meth c H locs 0 0 (MQ below (q_X8_once D k o r mv fr I L tp x zj A) ([.ref o, .int x] : List Value).toArray s 0 0 A) (F0 m 9 ls []) := by
    intro v5 H locs ls ev5 hP hD hS hl
    refine lv_aload_n hx hb dX8_once_9 rfl (lv_at hl 0 rfl) ?_
    refine xc_v (wc := [(o, eMM r mv fr (upd (upd (upd I 9 v5.1) 13 v5.2.1) 14 v5.2.2) L), ((r 5), aB k 700 tp)]) (wr := []) hP hD hS hA [0, 1] [] rfl rfl rfl (by decide) (xrV ⟨hx, hb, hml, hown, hts⟩ hg (m_X8_next l D k _ o r mv fr (upd (upd (upd I 9 v5.1) 13 v5.2.1) 14 v5.2.2) L tp zj hzj hz7 hat) hP hD [0, 1] rfl rfl trivial (ci := 10) (q0 := 0) rfl rfl rfl q1342 q1344 qs40 q93 q1345 xo_X8_next ⟨rfl, rfl⟩ ⟨Nat.le_of_ble_eq_true rfl, Nat.le_of_ble_eq_true rfl⟩ hl.1 (Nat.le_of_ble_eq_true rfl) dX8_once_10 ⟨Nat.le_of_ble_eq_true rfl, Nat.le_of_ble_eq_true rfl⟩ rfl) (fun u6 H locs hw hP hD hS hk => ?_)
    have eu6 := hw
    have pu6_at : atz zj u6.1 := by rw [eu6]; exact nx_at hzj hz7 hat
    replace hP : va_P D vwCl [(o, eMM r mv fr (upd (upd (upd (upd (upd (upd (upd I 13 v5.2.1) 14 v5.2.2) 8 u6.1) 9 u6.2.1) 10 u6.2.2.1) 11 u6.2.2.2.1) 12 u6.2.2.2.2.1) (vp_updL L 15 u6.2.2.2.2.2)), ((r 5), aB k 700 tp)] H := hP.sub [0, 1] rfl
    replace hD : va_D A [(o, eMM r mv fr (upd (upd (upd (upd (upd (upd (upd I 13 v5.2.1) 14 v5.2.2) 8 u6.1) 9 u6.2.1) 10 u6.2.2.1) 11 u6.2.2.2.1) 12 u6.2.2.2.2.1) (vp_updL L 15 u6.2.2.2.2.2)), ((r 5), aB k 700 tp)] := hD.sub [0, 1] (by decide) rfl
    exact xret_v hx hb hr hlocks (Nat.le_of_ble_eq_true rfl) (Nat.le_of_ble_eq_true rfl) hS.2.2 dX8_once_13 (fun t ht => ⟨⟨(u6.1, u6.2.1, u6.2.2.1, u6.2.2.2.1, u6.2.2.2.2.1, v5.2.1, v5.2.2, u6.2.2.2.2.2), rfl, ⟨(by subst eu6; subst ev5; exact rfl), pu6_at⟩, by rw [ht]; exact hP, hD⟩, hS.F ht⟩)
  refine lv_if_eq (tgt := 9) hx hb dX8_once_1 (by decide) (fun c7 => ?_) (fun c7 => ?_)
  · exact Jn1 ((I 9), (I 13), (I 14)) _ _ _ (by exact Eq.symm (Eq.trans (if_pos c7) (rfl))) hP hD hS (lv_sub hl [0, 1] rfl)
  · refine lv_aload_n hx hb dX8_once_4 rfl (lv_at hl 0 rfl) ?_
    refine lv_iconst (v := 3) hx hb dX8_once_5 ci_3 ?_
    refine xc_v (wc := [(o, eMM r mv fr I L)]) (wr := [((r 5), aB k 700 tp)]) hP hD hS hA [0] [1] rfl rfl rfl (by decide) (xrV ⟨hx, hb, hml, hown, hts⟩ hg (m_X8_wrong l D k _ o r mv fr I L 3) hP hD [0] rfl rfl trivial (ci := 10) (q0 := 0) rfl rfl rfl q1409 q1411 qs47 q93 q1412 xo_X8_wrong ⟨rfl, rfl⟩ ⟨Nat.le_of_ble_eq_true rfl, Nat.le_of_ble_eq_true rfl⟩ hl.1 (Nat.le_of_ble_eq_true rfl) dX8_once_6 ⟨Nat.le_of_ble_eq_true rfl, Nat.le_of_ble_eq_true rfl⟩ rfl) (fun u8 H locs hw hP hD hS hk => ?_)
    have eu8 := hw
    replace hP : va_P D vwCl [(o, eMM r mv fr (upd (upd (upd I 9 u8.1) 13 u8.2.1) 14 u8.2.2) L), ((r 5), aB k 700 tp)] H := hP.sub [1, 0] rfl
    replace hD : va_D A [(o, eMM r mv fr (upd (upd (upd I 9 u8.1) 13 u8.2.1) 14 u8.2.2) L), ((r 5), aB k 700 tp)] := hD.sub [1, 0] (by decide) rfl
    exact Jn1 (u8.1, u8.2.1, u8.2.2) _ _ _ (by subst eu8; exact Eq.symm (Eq.trans (if_neg c7) (rfl))) hP hD hS (lv_sub hl [0, 1] rfl)
