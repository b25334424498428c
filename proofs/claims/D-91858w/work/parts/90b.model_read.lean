set_option maxRecDepth 100000
def f_X8_readSieve_j4 (gse : Nat → Int32) (u11 : Int32) : (Int32) :=
  if u11 = (-1) then
    0
  else
    (gse u11.toNatClampNeg)
def f_X8_readSieve_j3 (I : Nat → Int32) (gse : Nat → Int32) (u4 : Int32 × Int32 × Int32 × Int32 × Int32 × Int32 × Int32 × Int64) (v10 : (Int32) × (Int32) × (Int32)) (u11 : Int32) : (Int32) × (Int32) × (Int32) :=
  if u11 = (-1) then
    let u29 := f_X8_wrong (upd (upd (upd (upd (upd (upd (upd I 8 u4.1) 10 u4.2.2.1) 11 u4.2.2.2.1) 12 u4.2.2.2.2.1) 9 v10.1) 13 v10.2.1) 14 v10.2.2) 2
    (u29.1, u29.2.1, u29.2.2)
  else
    if (gse u11.toNatClampNeg) = (-1) then
      let u31 := f_X8_wrong (upd (upd (upd (upd (upd (upd (upd I 8 u4.1) 10 u4.2.2.1) 11 u4.2.2.2.1) 12 u4.2.2.2.2.1) 9 v10.1) 13 v10.2.1) 14 v10.2.2) 2
      (u31.1, u31.2.1, u31.2.2)
    else
      (v10.1, v10.2.1, v10.2.2)
def f_X8_readSieve_j2 (I : Nat → Int32) (u4 : Int32 × Int32 × Int32 × Int32 × Int32 × Int32 × Int32 × Int64) (u5 : Int32) : (Int32) × (Int32) × (Int32) :=
  if u5 = 0 then
    let u33 := f_X8_wrong (upd (upd (upd (upd (upd (upd (upd I 8 u4.1) 9 u4.2.1) 10 u4.2.2.1) 11 u4.2.2.2.1) 12 u4.2.2.2.2.1) 13 u4.2.2.2.2.2.1) 14 u4.2.2.2.2.2.2.1) 1
    (u33.1, u33.2.1, u33.2.2)
  else
    (u4.2.1, u4.2.2.2.2.2.1, u4.2.2.2.2.2.2.1)
def f_X8_readSieve_j1 (J : Nat → Int32) : (Int32) :=
  if (J 2) = (-1) then
    0
  else
    1
def f_X8_readSieve (I : Nat → Int32) (L : Nat → Int64) (tp : Nat → Int32) (J : Nat → Int32) (zj : Nat) (gnm : Nat → Int64) (gse : Nat → Int32) (nN : Nat) : Int32 × Int32 × Int32 × Int32 × Int32 × Int32 × Int32 × Int64 × Int32 × Int32 :=
  let v3 := f_X8_readSieve_j1 J
  let u4 := f_X8_once I L tp v3 zj
  let u5 := f_X8_isName (upd (upd (upd (upd (upd (upd (upd I 8 u4.1) 9 u4.2.1) 10 u4.2.2.1) 11 u4.2.2.2.1) 12 u4.2.2.2.2.1) 13 u4.2.2.2.2.2.1) 14 u4.2.2.2.2.2.2.1) (vp_updL L 15 u4.2.2.2.2.2.2.2)
  let v10 := f_X8_readSieve_j2 I u4 u5
  let u11 := f_X13_find gnm u4.2.2.2.2.2.2.2 nN
  let v20 := f_X8_readSieve_j3 I gse u4 v10 u11
  let v23 := f_X8_readSieve_j4 gse u11
  let u24 := f_X8_next (upd (upd (upd (upd (upd (upd (upd I 8 u4.1) 10 u4.2.2.1) 11 u4.2.2.2.1) 12 u4.2.2.2.2.1) 9 v20.1) 13 v20.2.1) 14 v20.2.2) (vp_updL L 15 u4.2.2.2.2.2.2.2) tp zj
  let u25 := f_X8_needWord (upd (upd (upd (upd (upd (upd (upd I 13 v20.2.1) 14 v20.2.2) 8 u24.1) 9 u24.2.1) 10 u24.2.2.1) 11 u24.2.2.2.1) 12 u24.2.2.2.2.1) (vp_updL L 15 u24.2.2.2.2.2) tp zj (scN 9) (scF 9)
  let u26 := f_X8_readWhole (upd (upd (upd (upd (upd (upd (upd I 8 u25.1) 9 u25.2.1) 10 u25.2.2.1) 11 u25.2.2.2.1) 12 u25.2.2.2.2.1) 13 u25.2.2.2.2.2.1) 14 u25.2.2.2.2.2.2.1) (vp_updL L 15 u25.2.2.2.2.2.2.2) tp 0 50 zj
  (u26.2.1, u26.2.2.1, u26.2.2.2.1, u26.2.2.2.2.1, u26.2.2.2.2.2.1, u26.2.2.2.2.2.2.1, u26.2.2.2.2.2.2.2.1, u26.2.2.2.2.2.2.2.2, v23, u26.1)
abbrev q_X8_readSieve (D : va_G) (k : KK) (o : Nat) (r : Nat → Nat) (mv : Value) (I : Nat → Int32) (L : Nat → Int64) (tp : Nat → Int32) (fo : Nat) (qf : Nat → Nat) (J : Nat → Int32) (zj : Nat) (gnm : Nat → Int64) (gse : Nat → Int32) (nP : Nat) (nS : Nat) (nO : Nat) (nN : Nat) (A : Nat → Prop) : Array Value → State → Outcome → State → Prop := va_Qv (fun (u : Int32 × Int32 × Int32 × Int32 × Int32 × Int32 × Int32 × Int64 × Int32 × Int32) => u = f_X8_readSieve I L tp J zj gnm gse nN ∧ atz zj u.1 ∧ mInv (upd (upd J 2 u.2.2.2.2.2.2.2.2.1) 3 u.2.2.2.2.2.2.2.2.2) u.2.1 ∧ adv (I 8) u.1 u.2.1) (bx D (fun u => [(o, eMM r mv (.ref fo) (upd (upd (upd (upd (upd (upd (upd I 8 u.1) 9 u.2.1) 10 u.2.2.1) 11 u.2.2.2.1) 12 u.2.2.2.2.1) 13 u.2.2.2.2.2.1) 14 u.2.2.2.2.2.2.1) (vp_updL L 15 u.2.2.2.2.2.2.2.1)), ((r 5), aB k 700 tp), (fo, eMI qf (upd (upd J 2 u.2.2.2.2.2.2.2.2.1) 3 u.2.2.2.2.2.2.2.2.2)), ((qf 16), aL k 9 gnm), ((qf 17), aI k 9 gse)]) A) A
abbrev rm_X8_readSieve : Room := { frames := 8, cells := 0, slots := 0, locals := 320 }
theorem xo_X8_readSieve : xok yX8_readSieve 0 := by unfold xok; decide +kernel
set_option maxHeartbeats 8000000 in
theorem m_X8_readSieve (l : Launch) (D : va_G) (k : KK) (sz : Nat) (o : Nat) (r : Nat → Nat) (mv : Value) (I : Nat → Int32) (L : Nat → Int64) (tp : Nat → Int32) (fo : Nat) (qf : Nat → Nat) (J : Nat → Int32) (zj : Nat) (gnm : Nat → Int64) (gse : Nat → Int32) (nP : Nat) (nS : Nat) (nO : Nat) (nN : Nat) (hz : cz k) (hzj : I 7 = nI zj) (hz7 : zj ≤ 700) (hat : atz zj (I 8)) (hJ7 : J 7 = nI nP) (hJ8 : J 8 = nI nS) (hJ9 : J 9 = nI nO) (hJ10 : J 10 = nI nN) (hP6 : nP ≤ 6) (hS5 : nS ≤ 5) (hO4 : nO ≤ 4) (hN9 : nN ≤ 9) (hso : I 9 = 5 ∨ nN = nS + nO) : Met l yX8_readSieve (ws_ yX8_readSieve cX8_readSieve 2 none) rm_X8_readSieve (pcx D k [.ref o] sz [(o, eMM r mv (.ref fo) I L), ((r 5), aB k 700 tp), (fo, eMI qf J), ((qf 16), aL k 9 gnm), ((qf 17), aI k 9 gse)] (fun H => oldY k (va_A [(o, eMM r mv (.ref fo) I L), ((r 5), aB k 700 tp), (fo, eMI qf J), ((qf 16), aL k 9 gnm), ((qf 17), aI k 9 gse)] sz) H)) (q_X8_readSieve D k o r mv I L tp fo qf J zj gnm gse nP nS nO nN (va_A [(o, eMM r mv (.ref fo) I L), ((r 5), aB k 700 tp), (fo, eMI qf J), ((qf 16), aL k 9 gnm), ((qf 17), aI k 9 gse)] sz)) 0 0 (va_A [(o, eMM r mv (.ref fo) I L), ((r 5), aB k 700 tp), (fo, eMI qf J), ((qf 16), aL k 9 gnm), ((qf 17), aI k 9 gse)] sz) := by
  refine Met.start (Qc := q_X8_readSieve D k o r mv I L tp fo qf J zj gnm gse nP nS nO nN) (by decide) (Nat.le_of_ble_eq_true rfl) ?_
  intro p e s m below meth c A hx hb hr hlocks hml hown hin hts hg hP hD hA hAn hS hY hsz ls hl
  have hown : s.vm.findClass RX8 = some m.cls := hown
  have hl : lv_has ls 2 [(0, .ref o)] := hl
  have hO := oldY.mono hY hAn
  refine lv_aload_n hx hb dX8_readSieve_0 rfl (lv_at hl 0 rfl) ?_
  refine lv_aload_n hx hb dX8_readSieve_1 rfl (lv_at hl 0 rfl) ?_
  refine va_get (D := D) (ci := 10) (v := .ref fo) (C := RX8) (T := TX8) (N := 37) hx hb hts in_X8 hown hg.1 hP 0 rfl rfl 4 (Nat.le_of_ble_eq_true rfl) (hts _ q1145) (fun _ h9 => h9) rfl dX8_readSieve_2 ?_
  refine va_getN (D := D) (ci := 11) (v := .int (J 2)) (C := RX13) (T := TX13) (N := 18) hx hb hts in_X13 hown hg.1 hP 2 rfl rfl 2 (Nat.le_of_ble_eq_true rfl) (nwF_181 hg) (fun _ h9 => h9) rfl dX8_readSieve_5 ?_
  refine lv_iconst (v := (-1)) hx hb dX8_readSieve_8 ci_m1 ?_
  have Jn1 : ∀ (v3 : (Int32)) (H : Heap) (locs : List Loc) (ls : Array Slot), v3 = f_X8_readSieve_j1 J → (v3 = 0 ∨ v3 = 1) → va_P D vwCl [(o, eMM r mv (.ref fo) I L), ((r 5), aB k 700 tp), (fo, eMI qf J), ((qf 16), aL k 9 gnm), ((qf 17), aI k 9 gse)] H → va_D A [(o, eMM r mv (.ref fo) I L), ((r 5), aB k 700 tp), (fo, eMI qf J), ((qf 16), aL k 9 gnm), ((qf 17), aI k 9 gse)] → va_S A s.heap H locs → lv_has ls 2 [(0, .ref o)] → W p l e rm_X8_readSieve s m ([.ref o] : List Value).toArray below meth c H locs 0 0 (MQ below (q_X8_readSieve D k o r mv I L tp fo qf J zj gnm gse nP nS nO nN A) ([.ref o] : List Value).toArray s 0 0 A) (F0 m 17 ls [.int v3, .ref o]) := by
    intro v3 H locs ls ev3 bv3_0 hP hD hS hl
    refine xc_v (wc := [(o, eMM r mv (.ref fo) I L), ((r 5), aB k 700 tp)]) (wr := [(fo, eMI qf J), ((qf 16), aL k 9 gnm), ((qf 17), aI k 9 gse)]) hP hD hS hA [0, 1] [2, 3, 4] rfl rfl rfl (by decide) (xrV ⟨hx, hb, hml, hown, hts⟩ hg (m_X8_once l D k _ o r mv (.ref fo) I L tp v3 zj hzj hz7 hat) hP hD [0, 1] rfl rfl trivial (ci := 10) (q0 := 0) rfl rfl rfl q1405 q1407 qs46 q93 q1408 xo_X8_once ⟨rfl, rfl⟩ ⟨Nat.le_of_ble_eq_true rfl, Nat.le_of_ble_eq_true rfl⟩ hl.1 (Nat.le_of_ble_eq_true rfl) dX8_readSieve_17 ⟨Nat.le_of_ble_eq_true rfl, Nat.le_of_ble_eq_true rfl⟩ rfl) (fun u4 H locs hw hP hD hS hk => ?_)
    obtain ⟨eu4, pu4_at⟩ := hw
    have q5_u4 : (I 9) = 5 → u4.2.1 = 5 := fun h_ => by rw [eu4]; exact s5_once h_
    have ad_u4 : adv (I 8) u4.1 u4.2.1 := (by rw [eu4]; exact adv_once (I := I) hzj hz7 hat)
    replace hP : va_P D vwCl [(o, eMM r mv (.ref fo) (upd (upd (upd (upd (upd (upd (upd I 8 u4.1) 9 u4.2.1) 10 u4.2.2.1) 11 u4.2.2.2.1) 12 u4.2.2.2.2.1) 13 u4.2.2.2.2.2.1) 14 u4.2.2.2.2.2.2.1) (vp_updL L 15 u4.2.2.2.2.2.2.2)), ((r 5), aB k 700 tp), (fo, eMI qf J), ((qf 16), aL k 9 gnm), ((qf 17), aI k 9 gse)] H := hP.sub [3, 4, 0, 1, 2] rfl
    replace hD : va_D A [(o, eMM r mv (.ref fo) (upd (upd (upd (upd (upd (upd (upd I 8 u4.1) 9 u4.2.1) 10 u4.2.2.1) 11 u4.2.2.2.1) 12 u4.2.2.2.2.1) 13 u4.2.2.2.2.2.1) 14 u4.2.2.2.2.2.2.1) (vp_updL L 15 u4.2.2.2.2.2.2.2)), ((r 5), aB k 700 tp), (fo, eMI qf J), ((qf 16), aL k 9 gnm), ((qf 17), aI k 9 gse)] := hD.sub [3, 4, 0, 1, 2] (by decide) rfl
    refine lv_aload_n hx hb dX8_readSieve_20 rfl (lv_at hl 0 rfl) ?_
    refine xc_i (wc := [(o, eMM r mv (.ref fo) (upd (upd (upd (upd (upd (upd (upd I 8 u4.1) 9 u4.2.1) 10 u4.2.2.1) 11 u4.2.2.2.1) 12 u4.2.2.2.2.1) 13 u4.2.2.2.2.2.1) 14 u4.2.2.2.2.2.2.1) (vp_updL L 15 u4.2.2.2.2.2.2.2))]) (wr := [((r 5), aB k 700 tp), (fo, eMI qf J), ((qf 16), aL k 9 gnm), ((qf 17), aI k 9 gse)]) hP hD hS hA [0] [1, 2, 3, 4] rfl rfl rfl (by decide) (xrV ⟨hx, hb, hml, hown, hts⟩ hg (m_X8_isName l D k _ o r mv (.ref fo) (upd (upd (upd (upd (upd (upd (upd I 8 u4.1) 9 u4.2.1) 10 u4.2.2.1) 11 u4.2.2.2.1) 12 u4.2.2.2.2.1) 13 u4.2.2.2.2.2.1) 14 u4.2.2.2.2.2.2.1) (vp_updL L 15 u4.2.2.2.2.2.2.2) hz) hP hD [0] rfl rfl (oldY.call hO hS (va_free (wc := [(o, eMM r mv (.ref fo) (upd (upd (upd (upd (upd (upd (upd I 8 u4.1) 9 u4.2.1) 10 u4.2.2.1) 11 u4.2.2.2.1) 12 u4.2.2.2.2.1) 13 u4.2.2.2.2.2.1) 14 u4.2.2.2.2.2.2.1) (vp_updL L 15 u4.2.2.2.2.2.2.2))]) hD hS hA [0] rfl)) (ci := 10) (q0 := 0) rfl rfl rfl q1435 q1437 qs52 q93 q1438 xo_X8_isName ⟨rfl, rfl⟩ ⟨Nat.le_of_ble_eq_true rfl, Nat.le_of_ble_eq_true rfl⟩ hl.1 (Nat.le_of_ble_eq_true rfl) dX8_readSieve_21 ⟨Nat.le_of_ble_eq_true rfl, Nat.le_of_ble_eq_true rfl⟩ rfl) (fun u5 r_ H locs hw hP hD hS hk => ?_)
    obtain ⟨rfl, eu5, bu5⟩ := hw
    replace hP : va_P D vwCl [(o, eMM r mv (.ref fo) (upd (upd (upd (upd (upd (upd (upd I 8 u4.1) 9 u4.2.1) 10 u4.2.2.1) 11 u4.2.2.2.1) 12 u4.2.2.2.2.1) 13 u4.2.2.2.2.2.1) 14 u4.2.2.2.2.2.2.1) (vp_updL L 15 u4.2.2.2.2.2.2.2)), ((r 5), aB k 700 tp), (fo, eMI qf J), ((qf 16), aL k 9 gnm), ((qf 17), aI k 9 gse)] H := hP.sub [4, 0, 1, 2, 3] rfl
    replace hD : va_D A [(o, eMM r mv (.ref fo) (upd (upd (upd (upd (upd (upd (upd I 8 u4.1) 9 u4.2.1) 10 u4.2.2.1) 11 u4.2.2.2.1) 12 u4.2.2.2.2.1) 13 u4.2.2.2.2.2.1) 14 u4.2.2.2.2.2.2.1) (vp_updL L 15 u4.2.2.2.2.2.2.2)), ((r 5), aB k 700 tp), (fo, eMI qf J), ((qf 16), aL k 9 gnm), ((qf 17), aI k 9 gse)] := hD.sub [4, 0, 1, 2, 3] (by decide) rfl
    have Jn2 : ∀ (v10 : (Int32) × (Int32) × (Int32)) (H : Heap) (locs : List Loc) (ls : Array Slot), v10 = f_X8_readSieve_j2 I u4 u5 → va_P D vwCl [(o, eMM r mv (.ref fo) (upd (upd (upd (upd (upd (upd (upd I 8 u4.1) 10 u4.2.2.1) 11 u4.2.2.2.1) 12 u4.2.2.2.2.1) 9 v10.1) 13 v10.2.1) 14 v10.2.2) (vp_updL L 15 u4.2.2.2.2.2.2.2)), ((r 5), aB k 700 tp), (fo, eMI qf J), ((qf 16), aL k 9 gnm), ((qf 17), aI k 9 gse)] H → va_D A [(o, eMM r mv (.ref fo) (upd (upd (upd (upd (upd (upd (upd I 8 u4.1) 10 u4.2.2.1) 11 u4.2.2.2.1) 12 u4.2.2.2.2.1) 9 v10.1) 13 v10.2.1) 14 v10.2.2) (vp_updL L 15 u4.2.2.2.2.2.2.2)), ((r 5), aB k 700 tp), (fo, eMI qf J), ((qf 16), aL k 9 gnm), ((qf 17), aI k 9 gse)] → va_S A s.heap H locs → lv_has ls 2 [(0, .ref o)] → W p l e rm_X8_readSieve s m ([.ref o] : List Value).toArray below meth c H locs 0 0 (MQ below (q_X8_readSieve D k o r mv I L tp fo qf J zj gnm gse nP nS nO nN A) ([.ref o] : List Value).toArray s 0 0 A) (F0 m 32 ls []) := by
      intro v10 H locs ls ev10 hP hD hS hl
      have q5_v10 : u4.2.1 = 5 → v10.1 = 5 := fun h_ => by rw [ev10]; unfold f_X8_readSieve_j2; (repeat' split) <;> first | exact h_ | exact s5_wrong h_
      have ad_v10 : adv (I 8) u4.1 v10.1 := by rw [ev10]; unfold f_X8_readSieve_j2; (repeat' split) <;> first | exact ad_u4 | exact ad_u4.five wh_5 | exact ad_u4.five wr_5
      refine lv_aload_n hx hb dX8_readSieve_32 rfl (lv_at hl 0 rfl) ?_
      refine va_get (D := D) (ci := 10) (v := .ref fo) (C := RX8) (T := TX8) (N := 37) hx hb hts in_X8 hown hg.1 hP 0 rfl rfl 4 (Nat.le_of_ble_eq_true rfl) (hts _ q1145) (fun _ h9 => h9) rfl dX8_readSieve_33 ?_
      refine lv_aload_n hx hb dX8_readSieve_36 rfl (lv_at hl 0 rfl) ?_
      refine va_get (D := D) (ci := 10) (v := .long u4.2.2.2.2.2.2.2) (C := RX8) (T := TX8) (N := 37) hx hb hts in_X8 hown hg.1 hP 0 rfl rfl 15 (Nat.le_of_ble_eq_true rfl) (hts _ q1156) (fun _ h9 => h9) rfl dX8_readSieve_37 ?_
      refine xc_i (wc := [(fo, eMI qf J), ((qf 16), aL k 9 gnm)]) (wr := [(o, eMM r mv (.ref fo) (upd (upd (upd (upd (upd (upd (upd I 8 u4.1) 10 u4.2.2.1) 11 u4.2.2.2.1) 12 u4.2.2.2.2.1) 9 v10.1) 13 v10.2.1) 14 v10.2.2) (vp_updL L 15 u4.2.2.2.2.2.2.2)), ((r 5), aB k 700 tp), ((qf 17), aI k 9 gse)]) hP hD hS hA [2, 3] [0, 1, 4] rfl rfl rfl (by decide) (xrV ⟨hx, hb, hml, hown, hts⟩ hg (m_X13_find l D k _ fo qf J gnm u4.2.2.2.2.2.2.2 nN hJ10 hN9) hP hD [2, 3] rfl rfl trivial (ci := 11) (q0 := 2) rfl rfl rfl q1444 q1445 q1446 q103 q1447 xo_X13_find ⟨rfl, rfl⟩ ⟨Nat.le_of_ble_eq_true rfl, Nat.le_of_ble_eq_true rfl⟩ hl.1 (Nat.le_of_ble_eq_true rfl) dX8_readSieve_40 ⟨Nat.le_of_ble_eq_true rfl, Nat.le_of_ble_eq_true rfl⟩ rfl) (fun u11 r_ H locs hw hP hD hS hk => ?_)
      obtain ⟨rfl, eu11⟩ := hw
      have fo_u11 : u11 = -1 ∨ ∃ j, j < nN ∧ u11 = nI j := by rw [eu11]; exact fnd_or
      replace hP : va_P D vwCl [(o, eMM r mv (.ref fo) (upd (upd (upd (upd (upd (upd (upd I 8 u4.1) 10 u4.2.2.1) 11 u4.2.2.2.1) 12 u4.2.2.2.2.1) 9 v10.1) 13 v10.2.1) 14 v10.2.2) (vp_updL L 15 u4.2.2.2.2.2.2.2)), ((r 5), aB k 700 tp), (fo, eMI qf J), ((qf 16), aL k 9 gnm), ((qf 17), aI k 9 gse)] H := hP.sub [0, 1, 3, 4, 2] rfl
      replace hD : va_D A [(o, eMM r mv (.ref fo) (upd (upd (upd (upd (upd (upd (upd I 8 u4.1) 10 u4.2.2.1) 11 u4.2.2.2.1) 12 u4.2.2.2.2.1) 9 v10.1) 13 v10.2.1) 14 v10.2.2) (vp_updL L 15 u4.2.2.2.2.2.2.2)), ((r 5), aB k 700 tp), (fo, eMI qf J), ((qf 16), aL k 9 gnm), ((qf 17), aI k 9 gse)] := hD.sub [0, 1, 3, 4, 2] (by decide) rfl
      refine lv_istore_n (lv' := [(1, .int u11), (0, .ref o)]) hx hb dX8_readSieve_43 rfl hl (Nat.le_of_ble_eq_true rfl) rfl (fun ls hl => ?_)
      refine lv_iload_n hx hb dX8_readSieve_44 rfl (lv_at hl 0 rfl) ?_
      refine lv_iconst (v := (-1)) hx hb dX8_readSieve_45 ci_m1 ?_
      have Jn3 : ∀ (v20 : (Int32) × (Int32) × (Int32)) (H : Heap) (locs : List Loc) (ls : Array Slot), v20 = f_X8_readSieve_j3 I gse u4 v10 u11 → va_P D vwCl [(o, eMM r mv (.ref fo) (upd (upd (upd (upd (upd (upd (upd I 8 u4.1) 10 u4.2.2.1) 11 u4.2.2.2.1) 12 u4.2.2.2.2.1) 9 v20.1) 13 v20.2.1) 14 v20.2.2) (vp_updL L 15 u4.2.2.2.2.2.2.2)), ((r 5), aB k 700 tp), (fo, eMI qf J), ((qf 16), aL k 9 gnm), ((qf 17), aI k 9 gse)] H → va_D A [(o, eMM r mv (.ref fo) (upd (upd (upd (upd (upd (upd (upd I 8 u4.1) 10 u4.2.2.1) 11 u4.2.2.2.1) 12 u4.2.2.2.2.1) 9 v20.1) 13 v20.2.1) 14 v20.2.2) (vp_updL L 15 u4.2.2.2.2.2.2.2)), ((r 5), aB k 700 tp), (fo, eMI qf J), ((qf 16), aL k 9 gnm), ((qf 17), aI k 9 gse)] → va_S A s.heap H locs → lv_has ls 2 [(1, .int u11), (0, .ref o)] → W p l e rm_X8_readSieve s m ([.ref o] : List Value).toArray below meth c H locs 0 0 (MQ below (q_X8_readSieve D k o r mv I L tp fo qf J zj gnm gse nP nS nO nN A) ([.ref o] : List Value).toArray s 0 0 A) (F0 m 67 ls []) := by
        intro v20 H locs ls ev20 hP hD hS hl
        have q5_v20 : v10.1 = 5 → v20.1 = 5 := fun h_ => by rw [ev20]; unfold f_X8_readSieve_j3; (repeat' split) <;> first | exact h_ | exact s5_wrong h_
        have ad_v20 : adv (I 8) u4.1 v20.1 := by rw [ev20]; unfold f_X8_readSieve_j3; (repeat' split) <;> first | exact ad_v10 | exact ad_v10.five wh_5 | exact ad_v10.five wr_5
        refine lv_aload_n hx hb dX8_readSieve_67 rfl (lv_at hl 1 rfl) ?_
        refine va_get (D := D) (ci := 10) (v := .ref fo) (C := RX8) (T := TX8) (N := 37) hx hb hts in_X8 hown hg.1 hP 0 rfl rfl 4 (Nat.le_of_ble_eq_true rfl) (hts _ q1145) (fun _ h9 => h9) rfl dX8_readSieve_68 ?_
        refine lv_iload_n hx hb dX8_readSieve_71 rfl (lv_at hl 0 rfl) ?_
        refine lv_iconst (v := (-1)) hx hb dX8_readSieve_72 ci_m1 ?_
        have Jn4 : ∀ (v23 : (Int32)) (H : Heap) (locs : List Loc) (ls : Array Slot), v23 = f_X8_readSieve_j4 gse u11 → va_P D vwCl [(o, eMM r mv (.ref fo) (upd (upd (upd (upd (upd (upd (upd I 8 u4.1) 10 u4.2.2.1) 11 u4.2.2.2.1) 12 u4.2.2.2.2.1) 9 v20.1) 13 v20.2.1) 14 v20.2.2) (vp_updL L 15 u4.2.2.2.2.2.2.2)), ((r 5), aB k 700 tp), (fo, eMI qf J), ((qf 16), aL k 9 gnm), ((qf 17), aI k 9 gse)] H → va_D A [(o, eMM r mv (.ref fo) (upd (upd (upd (upd (upd (upd (upd I 8 u4.1) 10 u4.2.2.1) 11 u4.2.2.2.1) 12 u4.2.2.2.2.1) 9 v20.1) 13 v20.2.1) 14 v20.2.2) (vp_updL L 15 u4.2.2.2.2.2.2.2)), ((r 5), aB k 700 tp), (fo, eMI qf J), ((qf 16), aL k 9 gnm), ((qf 17), aI k 9 gse)] → va_S A s.heap H locs → lv_has ls 2 [(1, .int u11), (0, .ref o)] → W p l e rm_X8_readSieve s m ([.ref o] : List Value).toArray below meth c H locs 0 0 (MQ below (q_X8_readSieve D k o r mv I L tp fo qf J zj gnm gse nP nS nO nN A) ([.ref o] : List Value).toArray s 0 0 A) (F0 m 89 ls [.int v23, .ref fo]) := by
          intro v23 H locs ls ev23 hP hD hS hl
          refine va_putN (D := D) (ci := 11) (v := .int v23) (C := RX13) (T := TX13) (N := 18) hx hb hts in_X13 tyX13 tyX13_ok nmX13 hown hg.1 hP hD hS 2 rfl rfl 2 (Nat.le_of_ble_eq_true rfl) (nwF_181 hg) (fun _ h9 => h9) rfl ftX13_2 rfl rfl (Nat.le_of_ble_eq_true rfl) dX8_readSieve_89 (fun H locs hP hD hS => ?_)
          replace hP : va_P D vwCl [(o, eMM r mv (.ref fo) (upd (upd (upd (upd (upd (upd (upd I 8 u4.1) 10 u4.2.2.1) 11 u4.2.2.2.1) 12 u4.2.2.2.2.1) 9 v20.1) 13 v20.2.1) 14 v20.2.2) (vp_updL L 15 u4.2.2.2.2.2.2.2)), ((r 5), aB k 700 tp), (fo, eMI qf (upd J 2 v23)), ((qf 16), aL k 9 gnm), ((qf 17), aI k 9 gse)] H := hP
          replace hD : va_D A [(o, eMM r mv (.ref fo) (upd (upd (upd (upd (upd (upd (upd I 8 u4.1) 10 u4.2.2.1) 11 u4.2.2.2.1) 12 u4.2.2.2.2.1) 9 v20.1) 13 v20.2.1) 14 v20.2.2) (vp_updL L 15 u4.2.2.2.2.2.2.2)), ((r 5), aB k 700 tp), (fo, eMI qf (upd J 2 v23)), ((qf 16), aL k 9 gnm), ((qf 17), aI k 9 gse)] := hD
          refine lv_aload_n hx hb dX8_readSieve_92 rfl (lv_at hl 1 rfl) ?_
          refine xc_v (wc := [(o, eMM r mv (.ref fo) (upd (upd (upd (upd (upd (upd (upd I 8 u4.1) 10 u4.2.2.1) 11 u4.2.2.2.1) 12 u4.2.2.2.2.1) 9 v20.1) 13 v20.2.1) 14 v20.2.2) (vp_updL L 15 u4.2.2.2.2.2.2.2)), ((r 5), aB k 700 tp)]) (wr := [(fo, eMI qf (upd J 2 v23)), ((qf 16), aL k 9 gnm), ((qf 17), aI k 9 gse)]) hP hD hS hA [0, 1] [2, 3, 4] rfl rfl rfl (by decide) (xrV ⟨hx, hb, hml, hown, hts⟩ hg (m_X8_next l D k _ o r mv (.ref fo) (upd (upd (upd (upd (upd (upd (upd I 8 u4.1) 10 u4.2.2.1) 11 u4.2.2.2.1) 12 u4.2.2.2.2.1) 9 v20.1) 13 v20.2.1) 14 v20.2.2) (vp_updL L 15 u4.2.2.2.2.2.2.2) tp zj hzj hz7 pu4_at) hP hD [0, 1] rfl rfl trivial (ci := 10) (q0 := 0) rfl rfl rfl q1342 q1344 qs40 q93 q1345 xo_X8_next ⟨rfl, rfl⟩ ⟨Nat.le_of_ble_eq_true rfl, Nat.le_of_ble_eq_true rfl⟩ hl.1 (Nat.le_of_ble_eq_true rfl) dX8_readSieve_93 ⟨Nat.le_of_ble_eq_true rfl, Nat.le_of_ble_eq_true rfl⟩ rfl) (fun u24 H locs hw hP hD hS hk => ?_)
          have eu24 := hw
          have pu24_at : atz zj u24.1 := by rw [eu24]; exact nx_at hzj hz7 pu4_at
          have q5_u24 : v20.1 = 5 → u24.2.1 = 5 := fun h_ => by rw [eu24]; exact s5_next h_
          have ad_u24 : adv (I 8) u24.1 u24.2.1 := ad_v20.trans (by rw [eu24]; exact adv_next (I := upd (upd (upd (upd (upd (upd (upd I 8 u4.1) 10 u4.2.2.1) 11 u4.2.2.2.1) 12 u4.2.2.2.2.1) 9 v20.1) 13 v20.2.1) 14 v20.2.2) hzj hz7 pu4_at)
          replace hP : va_P D vwCl [(o, eMM r mv (.ref fo) (upd (upd (upd (upd (upd (upd (upd I 13 v20.2.1) 14 v20.2.2) 8 u24.1) 9 u24.2.1) 10 u24.2.2.1) 11 u24.2.2.2.1) 12 u24.2.2.2.2.1) (vp_updL L 15 u24.2.2.2.2.2)), ((r 5), aB k 700 tp), (fo, eMI qf (upd J 2 v23)), ((qf 16), aL k 9 gnm), ((qf 17), aI k 9 gse)] H := hP.sub [3, 4, 0, 1, 2] rfl
          replace hD : va_D A [(o, eMM r mv (.ref fo) (upd (upd (upd (upd (upd (upd (upd I 13 v20.2.1) 14 v20.2.2) 8 u24.1) 9 u24.2.1) 10 u24.2.2.1) 11 u24.2.2.2.1) 12 u24.2.2.2.2.1) (vp_updL L 15 u24.2.2.2.2.2)), ((r 5), aB k 700 tp), (fo, eMI qf (upd J 2 v23)), ((qf 16), aL k 9 gnm), ((qf 17), aI k 9 gse)] := hD.sub [3, 4, 0, 1, 2] (by decide) rfl
          refine lv_aload_n hx hb dX8_readSieve_96 rfl (lv_at hl 1 rfl) ?_
          refine xs_ldc hx hb hz hg hown (tx := "slips") (i := 9) (List.mem_of_getElem? (i := 26) rfl) dX8_readSieve_97 ?_
          refine xc_v (wc := [(o, eMM r mv (.ref fo) (upd (upd (upd (upd (upd (upd (upd I 13 v20.2.1) 14 v20.2.2) 8 u24.1) 9 u24.2.1) 10 u24.2.2.1) 11 u24.2.2.2.1) 12 u24.2.2.2.2.1) (vp_updL L 15 u24.2.2.2.2.2)), ((r 5), aB k 700 tp)]) (wr := [(fo, eMI qf (upd J 2 v23)), ((qf 16), aL k 9 gnm), ((qf 17), aI k 9 gse)]) hP hD hS hA [0, 1] [2, 3, 4] rfl rfl rfl (by decide) (xrV ⟨hx, hb, hml, hown, hts⟩ hg (m_X8_needWord l D k _ o r mv (.ref fo) (upd (upd (upd (upd (upd (upd (upd I 13 v20.2.1) 14 v20.2.2) 8 u24.1) 9 u24.2.1) 10 u24.2.2.1) 11 u24.2.2.2.1) 12 u24.2.2.2.2.1) (vp_updL L 15 u24.2.2.2.2.2) tp zj (k.1 (100 + 9)) (k.1 (200 + 9)) (scN 9) (scF 9) hz hzj hz7 pu24_at (by decide)) hP hD [0, 1] rfl rfl ⟨oldY.call hO hS (va_free (wc := [(o, eMM r mv (.ref fo) (upd (upd (upd (upd (upd (upd (upd I 13 v20.2.1) 14 v20.2.2) 8 u24.1) 9 u24.2.1) 10 u24.2.2.1) 11 u24.2.2.2.1) 12 u24.2.2.2.2.1) (vp_updL L 15 u24.2.2.2.2.2)), ((r 5), aB k 700 tp)]) hD hS hA [0, 1] rfl), (sY.ofcz (hz.1 9 (by decide)) hg (hO.at hS)).mono (va_free (wc := [(o, eMM r mv (.ref fo) (upd (upd (upd (upd (upd (upd (upd I 13 v20.2.1) 14 v20.2.2) 8 u24.1) 9 u24.2.1) 10 u24.2.2.1) 11 u24.2.2.2.1) 12 u24.2.2.2.2.1) (vp_updL L 15 u24.2.2.2.2.2)), ((r 5), aB k 700 tp)]) hD hS hA [0, 1] rfl)⟩ (ci := 10) (q0 := 0) rfl rfl rfl q1418 q1420 qs49 q93 q1421 xo_X8_needWord ⟨rfl, rfl⟩ ⟨Nat.le_of_ble_eq_true rfl, Nat.le_of_ble_eq_true rfl⟩ hl.1 (Nat.le_of_ble_eq_true rfl) dX8_readSieve_99 ⟨Nat.le_of_ble_eq_true rfl, Nat.le_of_ble_eq_true rfl⟩ rfl) (fun u25 H locs hw hP hD hS hk => ?_)
          obtain ⟨eu25, pu25_at⟩ := hw
          have q5_u25 : u24.2.1 = 5 → u25.2.1 = 5 := fun h_ => by rw [eu25]; exact s5_needWord h_
          have ad_u25 : adv (I 8) u25.1 u25.2.1 := ad_u24.trans (by rw [eu25]; exact adv_needWord (I := upd (upd (upd (upd (upd (upd (upd I 13 v20.2.1) 14 v20.2.2) 8 u24.1) 9 u24.2.1) 10 u24.2.2.1) 11 u24.2.2.2.1) 12 u24.2.2.2.2.1) hzj hz7 pu24_at)
          replace hP : va_P D vwCl [(o, eMM r mv (.ref fo) (upd (upd (upd (upd (upd (upd (upd I 8 u25.1) 9 u25.2.1) 10 u25.2.2.1) 11 u25.2.2.2.1) 12 u25.2.2.2.2.1) 13 u25.2.2.2.2.2.1) 14 u25.2.2.2.2.2.2.1) (vp_updL L 15 u25.2.2.2.2.2.2.2)), ((r 5), aB k 700 tp), (fo, eMI qf (upd J 2 v23)), ((qf 16), aL k 9 gnm), ((qf 17), aI k 9 gse)] H := hP.sub [3, 4, 0, 1, 2] rfl
          replace hD : va_D A [(o, eMM r mv (.ref fo) (upd (upd (upd (upd (upd (upd (upd I 8 u25.1) 9 u25.2.1) 10 u25.2.2.1) 11 u25.2.2.2.1) 12 u25.2.2.2.2.1) 13 u25.2.2.2.2.2.1) 14 u25.2.2.2.2.2.2.1) (vp_updL L 15 u25.2.2.2.2.2.2.2)), ((r 5), aB k 700 tp), (fo, eMI qf (upd J 2 v23)), ((qf 16), aL k 9 gnm), ((qf 17), aI k 9 gse)] := hD.sub [3, 4, 0, 1, 2] (by decide) rfl
          refine lv_aload_n hx hb dX8_readSieve_102 rfl (lv_at hl 1 rfl) ?_
          refine va_get (D := D) (ci := 10) (v := .ref fo) (C := RX8) (T := TX8) (N := 37) hx hb hts in_X8 hown hg.1 hP 0 rfl rfl 4 (Nat.le_of_ble_eq_true rfl) (hts _ q1145) (fun _ h9 => h9) rfl dX8_readSieve_103 ?_
          refine lv_aload_n hx hb dX8_readSieve_106 rfl (lv_at hl 1 rfl) ?_
          refine lv_iconst (v := 0) hx hb dX8_readSieve_107 ci_0 ?_
          refine lv_bipush (v := 50) hx hb dX8_readSieve_108 cb_50 ?_
          refine xc_i (wc := [(o, eMM r mv (.ref fo) (upd (upd (upd (upd (upd (upd (upd I 8 u25.1) 9 u25.2.1) 10 u25.2.2.1) 11 u25.2.2.2.1) 12 u25.2.2.2.2.1) 13 u25.2.2.2.2.2.1) 14 u25.2.2.2.2.2.2.1) (vp_updL L 15 u25.2.2.2.2.2.2.2)), ((r 5), aB k 700 tp)]) (wr := [(fo, eMI qf (upd J 2 v23)), ((qf 16), aL k 9 gnm), ((qf 17), aI k 9 gse)]) hP hD hS hA [0, 1] [2, 3, 4] rfl rfl rfl (by decide) (xrV ⟨hx, hb, hml, hown, hts⟩ hg (m_X8_readWhole l D k _ o r mv (.ref fo) (upd (upd (upd (upd (upd (upd (upd I 8 u25.1) 9 u25.2.1) 10 u25.2.2.1) 11 u25.2.2.2.1) 12 u25.2.2.2.2.1) 13 u25.2.2.2.2.2.1) 14 u25.2.2.2.2.2.2.1) (vp_updL L 15 u25.2.2.2.2.2.2.2) tp 0 50 zj hzj hz7 pu25_at) hP hD [0, 1] rfl rfl trivial (ci := 10) (q0 := 0) rfl rfl rfl q1422 q1424 qs50 q93 q1425 xo_X8_readWhole ⟨rfl, rfl⟩ ⟨Nat.le_of_ble_eq_true rfl, Nat.le_of_ble_eq_true rfl⟩ hl.1 (Nat.le_of_ble_eq_true rfl) dX8_readSieve_110 ⟨Nat.le_of_ble_eq_true rfl, Nat.le_of_ble_eq_true rfl⟩ rfl) (fun r_ u26 H locs hw hP hD hS hk => ?_)
          obtain ⟨rfl, eu26, pu26_at⟩ := hw
          have q5_u26 : u25.2.1 = 5 → u26.2.2.1 = 5 := fun h_ => by rw [eu26]; exact s5_readWhole h_
          have ad_u26 : adv (I 8) u26.2.1 u26.2.2.1 := ad_u25.trans (by rw [eu26]; exact adv_readWhole (I := upd (upd (upd (upd (upd (upd (upd I 8 u25.1) 9 u25.2.1) 10 u25.2.2.1) 11 u25.2.2.2.1) 12 u25.2.2.2.2.1) 13 u25.2.2.2.2.2.1) 14 u25.2.2.2.2.2.2.1) hzj hz7 pu25_at)
          replace hP : va_P D vwCl [(o, eMM r mv (.ref fo) (upd (upd (upd (upd (upd (upd (upd I 8 u26.2.1) 9 u26.2.2.1) 10 u26.2.2.2.1) 11 u26.2.2.2.2.1) 12 u26.2.2.2.2.2.1) 13 u26.2.2.2.2.2.2.1) 14 u26.2.2.2.2.2.2.2.1) (vp_updL L 15 u26.2.2.2.2.2.2.2.2)), ((r 5), aB k 700 tp), (fo, eMI qf (upd J 2 v23)), ((qf 16), aL k 9 gnm), ((qf 17), aI k 9 gse)] H := hP.sub [3, 4, 0, 1, 2] rfl
          replace hD : va_D A [(o, eMM r mv (.ref fo) (upd (upd (upd (upd (upd (upd (upd I 8 u26.2.1) 9 u26.2.2.1) 10 u26.2.2.2.1) 11 u26.2.2.2.2.1) 12 u26.2.2.2.2.2.1) 13 u26.2.2.2.2.2.2.1) 14 u26.2.2.2.2.2.2.2.1) (vp_updL L 15 u26.2.2.2.2.2.2.2.2)), ((r 5), aB k 700 tp), (fo, eMI qf (upd J 2 v23)), ((qf 16), aL k 9 gnm), ((qf 17), aI k 9 gse)] := hD.sub [3, 4, 0, 1, 2] (by decide) rfl
          refine va_putN (D := D) (ci := 11) (v := .int u26.1) (C := RX13) (T := TX13) (N := 18) hx hb hts in_X13 tyX13 tyX13_ok nmX13 hown hg.1 hP hD hS 2 rfl rfl 3 (Nat.le_of_ble_eq_true rfl) (nwF_248 hg) (fun _ h9 => h9) rfl ftX13_3 rfl rfl (Nat.le_of_ble_eq_true rfl) dX8_readSieve_113 (fun H locs hP hD hS => ?_)
          replace hP : va_P D vwCl [(o, eMM r mv (.ref fo) (upd (upd (upd (upd (upd (upd (upd I 8 u26.2.1) 9 u26.2.2.1) 10 u26.2.2.2.1) 11 u26.2.2.2.2.1) 12 u26.2.2.2.2.2.1) 13 u26.2.2.2.2.2.2.1) 14 u26.2.2.2.2.2.2.2.1) (vp_updL L 15 u26.2.2.2.2.2.2.2.2)), ((r 5), aB k 700 tp), (fo, eMI qf (upd (upd J 2 v23) 3 u26.1)), ((qf 16), aL k 9 gnm), ((qf 17), aI k 9 gse)] H := hP
          replace hD : va_D A [(o, eMM r mv (.ref fo) (upd (upd (upd (upd (upd (upd (upd I 8 u26.2.1) 9 u26.2.2.1) 10 u26.2.2.2.1) 11 u26.2.2.2.2.1) 12 u26.2.2.2.2.2.1) 13 u26.2.2.2.2.2.2.1) 14 u26.2.2.2.2.2.2.2.1) (vp_updL L 15 u26.2.2.2.2.2.2.2.2)), ((r 5), aB k 700 tp), (fo, eMI qf (upd (upd J 2 v23) 3 u26.1)), ((qf 16), aL k 9 gnm), ((qf 17), aI k 9 gse)] := hD
          exact xret_v hx hb hr hlocks (Nat.le_of_ble_eq_true rfl) (Nat.le_of_ble_eq_true rfl) hS.2.2 dX8_readSieve_116 (fun t ht => ⟨⟨(u26.2.1, u26.2.2.1, u26.2.2.2.1, u26.2.2.2.2.1, u26.2.2.2.2.2.1, u26.2.2.2.2.2.2.1, u26.2.2.2.2.2.2.2.1, u26.2.2.2.2.2.2.2.2, v23, u26.1), rfl, ⟨(by subst eu26; subst eu25; subst eu24; subst ev23; subst ev20; subst eu11; subst ev10; subst eu5; subst eu4; subst ev3; exact rfl), pu26_at, ⟨nP, nS, nO, nN, hJ7, hJ8, hJ9, hJ10, hP6, hS5, hO4, hN9, hso.imp_left (fun h_ => q5_u26 (q5_u25 (q5_u24 (q5_v20 (q5_v10 (q5_u4 (h_)))))))⟩, ad_u26⟩, by rw [ht]; exact hP, hD⟩, hS.F ht⟩)
        refine lv_icmp_ne (tgt := 80) hx hb dX8_readSieve_73 (by decide) (fun c27 => ?_) (fun c27 => ?_)
        · obtain ⟨k1_u11, k2_u11⟩ := fnd_k fo_u11 c27 hN9
          refine lv_aload_n hx hb dX8_readSieve_80 rfl (lv_at hl 1 rfl) ?_
          refine va_get (D := D) (ci := 10) (v := .ref fo) (C := RX8) (T := TX8) (N := 37) hx hb hts in_X8 hown hg.1 hP 0 rfl rfl 4 (Nat.le_of_ble_eq_true rfl) (hts _ q1145) (fun _ h9 => h9) rfl dX8_readSieve_81 ?_
          refine va_getN (D := D) (ci := 11) (v := .ref (qf 17)) (C := RX13) (T := TX13) (N := 18) hx hb hts in_X13 hown hg.1 hP 2 rfl rfl 17 (Nat.le_of_ble_eq_true rfl) (nwF_243 hg) (fun _ h9 => h9) rfl dX8_readSieve_84 ?_
          refine lv_iload_n hx hb dX8_readSieve_87 rfl (lv_at hl 0 rfl) ?_
          refine xa_iald hx hb hg hP 4 rfl k1_u11 (by first | omega | exact Nat.lt_of_lt_of_le (Nat.mod_lt _ (by omega)) (by omega)) (by omega) dX8_readSieve_88 ?_
          exact Jn4 (gse u11.toNatClampNeg) _ _ _ (by exact Eq.symm (Eq.trans (if_neg c27) (rfl))) hP hD hS (lv_sub hl [0, 1] rfl)
        · refine lv_iconst (v := 0) hx hb dX8_readSieve_76 ci_0 ?_
          refine lv_goto (tgt := 89) hx hb dX8_readSieve_77 (by decide) ?_
          exact Jn4 0 _ _ _ (by exact Eq.symm (Eq.trans (if_pos c27) (rfl))) hP hD hS (lv_sub hl [0, 1] rfl)
      refine lv_icmp_eq (tgt := 62) hx hb dX8_readSieve_46 (by decide) (fun c28 => ?_) (fun c28 => ?_)
      · refine lv_aload_n hx hb dX8_readSieve_62 rfl (lv_at hl 1 rfl) ?_
        refine lv_iconst (v := 2) hx hb dX8_readSieve_63 ci_2 ?_
        refine xc_v (wc := [(o, eMM r mv (.ref fo) (upd (upd (upd (upd (upd (upd (upd I 8 u4.1) 10 u4.2.2.1) 11 u4.2.2.2.1) 12 u4.2.2.2.2.1) 9 v10.1) 13 v10.2.1) 14 v10.2.2) (vp_updL L 15 u4.2.2.2.2.2.2.2))]) (wr := [((r 5), aB k 700 tp), (fo, eMI qf J), ((qf 16), aL k 9 gnm), ((qf 17), aI k 9 gse)]) hP hD hS hA [0] [1, 2, 3, 4] rfl rfl rfl (by decide) (xrV ⟨hx, hb, hml, hown, hts⟩ hg (m_X8_wrong l D k _ o r mv (.ref fo) (upd (upd (upd (upd (upd (upd (upd I 8 u4.1) 10 u4.2.2.1) 11 u4.2.2.2.1) 12 u4.2.2.2.2.1) 9 v10.1) 13 v10.2.1) 14 v10.2.2) (vp_updL L 15 u4.2.2.2.2.2.2.2) 2) hP hD [0] rfl rfl trivial (ci := 10) (q0 := 0) rfl rfl rfl q1409 q1411 qs47 q93 q1412 xo_X8_wrong ⟨rfl, rfl⟩ ⟨Nat.le_of_ble_eq_true rfl, Nat.le_of_ble_eq_true rfl⟩ hl.1 (Nat.le_of_ble_eq_true rfl) dX8_readSieve_64 ⟨Nat.le_of_ble_eq_true rfl, Nat.le_of_ble_eq_true rfl⟩ rfl) (fun u29 H locs hw hP hD hS hk => ?_)
        have eu29 := hw
        have q5_u29 : v10.1 = 5 → u29.1 = 5 := fun h_ => by rw [eu29]; exact s5_wrong h_
        replace hP : va_P D vwCl [(o, eMM r mv (.ref fo) (upd (upd (upd (upd (upd (upd (upd I 8 u4.1) 10 u4.2.2.1) 11 u4.2.2.2.1) 12 u4.2.2.2.2.1) 9 u29.1) 13 u29.2.1) 14 u29.2.2) (vp_updL L 15 u4.2.2.2.2.2.2.2)), ((r 5), aB k 700 tp), (fo, eMI qf J), ((qf 16), aL k 9 gnm), ((qf 17), aI k 9 gse)] H := hP.sub [4, 0, 1, 2, 3] rfl
        replace hD : va_D A [(o, eMM r mv (.ref fo) (upd (upd (upd (upd (upd (upd (upd I 8 u4.1) 10 u4.2.2.1) 11 u4.2.2.2.1) 12 u4.2.2.2.2.1) 9 u29.1) 13 u29.2.1) 14 u29.2.2) (vp_updL L 15 u4.2.2.2.2.2.2.2)), ((r 5), aB k 700 tp), (fo, eMI qf J), ((qf 16), aL k 9 gnm), ((qf 17), aI k 9 gse)] := hD.sub [4, 0, 1, 2, 3] (by decide) rfl
        exact Jn3 (u29.1, u29.2.1, u29.2.2) _ _ _ (by subst eu29; exact Eq.symm (Eq.trans (if_pos c28) (rfl))) hP hD hS (lv_sub hl [0, 1] rfl)
      · obtain ⟨k1_u11, k2_u11⟩ := fnd_k fo_u11 c28 hN9
        refine lv_aload_n hx hb dX8_readSieve_49 rfl (lv_at hl 1 rfl) ?_
        refine va_get (D := D) (ci := 10) (v := .ref fo) (C := RX8) (T := TX8) (N := 37) hx hb hts in_X8 hown hg.1 hP 0 rfl rfl 4 (Nat.le_of_ble_eq_true rfl) (hts _ q1145) (fun _ h9 => h9) rfl dX8_readSieve_50 ?_
        refine va_getN (D := D) (ci := 11) (v := .ref (qf 17)) (C := RX13) (T := TX13) (N := 18) hx hb hts in_X13 hown hg.1 hP 2 rfl rfl 17 (Nat.le_of_ble_eq_true rfl) (nwF_243 hg) (fun _ h9 => h9) rfl dX8_readSieve_53 ?_
        refine lv_iload_n hx hb dX8_readSieve_56 rfl (lv_at hl 0 rfl) ?_
        refine xa_iald hx hb hg hP 4 rfl k1_u11 (by first | omega | exact Nat.lt_of_lt_of_le (Nat.mod_lt _ (by omega)) (by omega)) (by omega) dX8_readSieve_57 ?_
        refine lv_iconst (v := (-1)) hx hb dX8_readSieve_58 ci_m1 ?_
        refine lv_icmp_ne (tgt := 67) hx hb dX8_readSieve_59 (by decide) (fun c30 => ?_) (fun c30 => ?_)
        · exact Jn3 (v10.1, v10.2.1, v10.2.2) _ _ _ (by exact Eq.symm (Eq.trans (if_neg c28) (Eq.trans (if_neg c30) (rfl)))) hP hD hS (lv_sub hl [0, 1] rfl)
        · refine lv_aload_n hx hb dX8_readSieve_62 rfl (lv_at hl 1 rfl) ?_
          refine lv_iconst (v := 2) hx hb dX8_readSieve_63 ci_2 ?_
          refine xc_v (wc := [(o, eMM r mv (.ref fo) (upd (upd (upd (upd (upd (upd (upd I 8 u4.1) 10 u4.2.2.1) 11 u4.2.2.2.1) 12 u4.2.2.2.2.1) 9 v10.1) 13 v10.2.1) 14 v10.2.2) (vp_updL L 15 u4.2.2.2.2.2.2.2))]) (wr := [((r 5), aB k 700 tp), (fo, eMI qf J), ((qf 16), aL k 9 gnm), ((qf 17), aI k 9 gse)]) hP hD hS hA [0] [1, 2, 3, 4] rfl rfl rfl (by decide) (xrV ⟨hx, hb, hml, hown, hts⟩ hg (m_X8_wrong l D k _ o r mv (.ref fo) (upd (upd (upd (upd (upd (upd (upd I 8 u4.1) 10 u4.2.2.1) 11 u4.2.2.2.1) 12 u4.2.2.2.2.1) 9 v10.1) 13 v10.2.1) 14 v10.2.2) (vp_updL L 15 u4.2.2.2.2.2.2.2) 2) hP hD [0] rfl rfl trivial (ci := 10) (q0 := 0) rfl rfl rfl q1409 q1411 qs47 q93 q1412 xo_X8_wrong ⟨rfl, rfl⟩ ⟨Nat.le_of_ble_eq_true rfl, Nat.le_of_ble_eq_true rfl⟩ hl.1 (Nat.le_of_ble_eq_true rfl) dX8_readSieve_64 ⟨Nat.le_of_ble_eq_true rfl, Nat.le_of_ble_eq_true rfl⟩ rfl) (fun u31 H locs hw hP hD hS hk => ?_)
          have eu31 := hw
          have q5_u31 : v10.1 = 5 → u31.1 = 5 := fun h_ => by rw [eu31]; exact s5_wrong h_
          replace hP : va_P D vwCl [(o, eMM r mv (.ref fo) (upd (upd (upd (upd (upd (upd (upd I 8 u4.1) 10 u4.2.2.1) 11 u4.2.2.2.1) 12 u4.2.2.2.2.1) 9 u31.1) 13 u31.2.1) 14 u31.2.2) (vp_updL L 15 u4.2.2.2.2.2.2.2)), ((r 5), aB k 700 tp), (fo, eMI qf J), ((qf 16), aL k 9 gnm), ((qf 17), aI k 9 gse)] H := hP.sub [4, 0, 1, 2, 3] rfl
          replace hD : va_D A [(o, eMM r mv (.ref fo) (upd (upd (upd (upd (upd (upd (upd I 8 u4.1) 10 u4.2.2.1) 11 u4.2.2.2.1) 12 u4.2.2.2.2.1) 9 u31.1) 13 u31.2.1) 14 u31.2.2) (vp_updL L 15 u4.2.2.2.2.2.2.2)), ((r 5), aB k 700 tp), (fo, eMI qf J), ((qf 16), aL k 9 gnm), ((qf 17), aI k 9 gse)] := hD.sub [4, 0, 1, 2, 3] (by decide) rfl
          exact Jn3 (u31.1, u31.2.1, u31.2.2) _ _ _ (by subst eu31; exact Eq.symm (Eq.trans (if_neg c28) (Eq.trans (if_pos c30) (rfl)))) hP hD hS (lv_sub hl [0, 1] rfl)
    refine lv_if_ne (tgt := 32) hx hb dX8_readSieve_24 (by decide) (fun c32 => ?_) (fun c32 => ?_)
    · exact Jn2 (u4.2.1, u4.2.2.2.2.2.1, u4.2.2.2.2.2.2.1) _ _ _ (by exact Eq.symm (Eq.trans (if_neg c32) (rfl))) hP hD hS (lv_sub hl [0] rfl)
    · refine lv_aload_n hx hb dX8_readSieve_27 rfl (lv_at hl 0 rfl) ?_
      refine lv_iconst (v := 1) hx hb dX8_readSieve_28 ci_1 ?_
      refine xc_v (wc := [(o, eMM r mv (.ref fo) (upd (upd (upd (upd (upd (upd (upd I 8 u4.1) 9 u4.2.1) 10 u4.2.2.1) 11 u4.2.2.2.1) 12 u4.2.2.2.2.1) 13 u4.2.2.2.2.2.1) 14 u4.2.2.2.2.2.2.1) (vp_updL L 15 u4.2.2.2.2.2.2.2))]) (wr := [((r 5), aB k 700 tp), (fo, eMI qf J), ((qf 16), aL k 9 gnm), ((qf 17), aI k 9 gse)]) hP hD hS hA [0] [1, 2, 3, 4] rfl rfl rfl (by decide) (xrV ⟨hx, hb, hml, hown, hts⟩ hg (m_X8_wrong l D k _ o r mv (.ref fo) (upd (upd (upd (upd (upd (upd (upd I 8 u4.1) 9 u4.2.1) 10 u4.2.2.1) 11 u4.2.2.2.1) 12 u4.2.2.2.2.1) 13 u4.2.2.2.2.2.1) 14 u4.2.2.2.2.2.2.1) (vp_updL L 15 u4.2.2.2.2.2.2.2) 1) hP hD [0] rfl rfl trivial (ci := 10) (q0 := 0) rfl rfl rfl q1409 q1411 qs47 q93 q1412 xo_X8_wrong ⟨rfl, rfl⟩ ⟨Nat.le_of_ble_eq_true rfl, Nat.le_of_ble_eq_true rfl⟩ hl.1 (Nat.le_of_ble_eq_true rfl) dX8_readSieve_29 ⟨Nat.le_of_ble_eq_true rfl, Nat.le_of_ble_eq_true rfl⟩ rfl) (fun u33 H locs hw hP hD hS hk => ?_)
      have eu33 := hw
      have q5_u33 : u4.2.1 = 5 → u33.1 = 5 := fun h_ => by rw [eu33]; exact s5_wrong h_
      replace hP : va_P D vwCl [(o, eMM r mv (.ref fo) (upd (upd (upd (upd (upd (upd (upd I 8 u4.1) 10 u4.2.2.1) 11 u4.2.2.2.1) 12 u4.2.2.2.2.1) 9 u33.1) 13 u33.2.1) 14 u33.2.2) (vp_updL L 15 u4.2.2.2.2.2.2.2)), ((r 5), aB k 700 tp), (fo, eMI qf J), ((qf 16), aL k 9 gnm), ((qf 17), aI k 9 gse)] H := hP.sub [4, 0, 1, 2, 3] rfl
      replace hD : va_D A [(o, eMM r mv (.ref fo) (upd (upd (upd (upd (upd (upd (upd I 8 u4.1) 10 u4.2.2.1) 11 u4.2.2.2.1) 12 u4.2.2.2.2.1) 9 u33.1) 13 u33.2.1) 14 u33.2.2) (vp_updL L 15 u4.2.2.2.2.2.2.2)), ((r 5), aB k 700 tp), (fo, eMI qf J), ((qf 16), aL k 9 gnm), ((qf 17), aI k 9 gse)] := hD.sub [4, 0, 1, 2, 3] (by decide) rfl
      exact Jn2 (u33.1, u33.2.1, u33.2.2) _ _ _ (by subst eu33; exact Eq.symm (Eq.trans (if_pos c32) (rfl))) hP hD hS (lv_sub hl [0] rfl)
  refine lv_icmp_eq (tgt := 16) hx hb dX8_readSieve_9 (by decide) (fun c34 => ?_) (fun c34 => ?_)
  · refine lv_iconst (v := 0) hx hb dX8_readSieve_16 ci_0 ?_
    exact Jn1 0 _ _ _ (by exact Eq.symm (Eq.trans (if_pos c34) (rfl))) (Or.inl rfl) hP hD hS (lv_sub hl [0] rfl)
  · refine lv_iconst (v := 1) hx hb dX8_readSieve_12 ci_1 ?_
    refine lv_goto (tgt := 17) hx hb dX8_readSieve_13 (by decide) ?_
    exact Jn1 1 _ _ _ (by exact Eq.symm (Eq.trans (if_neg c34) (rfl))) (Or.inr rfl) hP hD hS (lv_sub hl [0] rfl)

def f_X8_readFresh_j2 (I : Nat → Int32) (v6 : (Int32) × (Int32) × (Int32)) (u7 : Int32) : (Int32) × (Int32) × (Int32) :=
  if u7 = (-1) then
    (v6.1, v6.2.1, v6.2.2)
  else
    let u20 := f_X8_wrong (upd (upd (upd I 9 v6.1) 13 v6.2.1) 14 v6.2.2) 3
    (u20.1, u20.2.1, u20.2.2)
def f_X8_readFresh_j1 (I : Nat → Int32) (u1 : Int32) : (Int32) × (Int32) × (Int32) :=
  if u1 = 0 then
    let u22 := f_X8_wrong I 1
    (u22.1, u22.2.1, u22.2.2)
  else
    ((I 9), (I 13), (I 14))
def f_X8_readFresh (I : Nat → Int32) (L : Nat → Int64) (tp : Nat → Int32) (J : Nat → Int32) (zj : Nat) (gnm : Nat → Int64) (gse : Nat → Int32) (x : Int32) (nN : Nat) : Int32 × Int32 × Int32 × Int32 × Int32 × Int32 × Int32 × Int64 × Int32 × (Nat → Int64) × (Nat → Int32) :=
  let u1 := f_X8_isName I L
  let v6 := f_X8_readFresh_j1 I u1
  let u7 := f_X13_find gnm (L 15) nN
  let v12 := f_X8_readFresh_j2 I v6 u7
  if v12.1 = 5 then
    ((I 8), v12.1, (I 10), (I 11), (I 12), v12.2.1, v12.2.2, (L 15), (J 10), gnm, gse)
  else
    let x14 := (L 15)
    let f15 := vp_updL gnm nN x14
    let f16 := upd gse nN x
    let x17 := ((J 10) + 1)
    let u18 := f_X8_next (upd (upd (upd I 9 v12.1) 13 v12.2.1) 14 v12.2.2) L tp zj
    (u18.1, u18.2.1, u18.2.2.1, u18.2.2.2.1, u18.2.2.2.2.1, v12.2.1, v12.2.2, u18.2.2.2.2.2, x17, f15, f16)
abbrev q_X8_readFresh (D : va_G) (k : KK) (o : Nat) (r : Nat → Nat) (mv : Value) (I : Nat → Int32) (L : Nat → Int64) (tp : Nat → Int32) (fo : Nat) (qf : Nat → Nat) (J : Nat → Int32) (zj : Nat) (gnm : Nat → Int64) (gse : Nat → Int32) (x : Int32) (nN : Nat) (A : Nat → Prop) : Array Value → State → Outcome → State → Prop := va_Qv (fun (u : Int32 × Int32 × Int32 × Int32 × Int32 × Int32 × Int32 × Int64 × Int32 × (Nat → Int64) × (Nat → Int32)) => u = f_X8_readFresh I L tp J zj gnm gse x nN ∧ atz zj u.1 ∧ (∃ m_ : Nat, u.2.2.2.2.2.2.2.2.1 = nI m_ ∧ m_ ≤ 9 ∧ (u.2.1 = 5 ∨ m_ = nN + 1)) ∧ adv (I 8) u.1 u.2.1 ∧ (I 9 = 5 → u.2.1 = 5)) (bx D (fun u => [(o, eMM r mv (.ref fo) (upd (upd (upd (upd (upd (upd (upd I 8 u.1) 9 u.2.1) 10 u.2.2.1) 11 u.2.2.2.1) 12 u.2.2.2.2.1) 13 u.2.2.2.2.2.1) 14 u.2.2.2.2.2.2.1) (vp_updL L 15 u.2.2.2.2.2.2.2.1)), ((r 5), aB k 700 tp), (fo, eMI qf (upd J 10 u.2.2.2.2.2.2.2.2.1)), ((qf 16), aL k 9 u.2.2.2.2.2.2.2.2.2.1), ((qf 17), aI k 9 u.2.2.2.2.2.2.2.2.2.2)]) A) A
abbrev rm_X8_readFresh : Room := { frames := 8, cells := 0, slots := 0, locals := 320 }
theorem xo_X8_readFresh : xok yX8_readFresh 1 := by unfold xok; decide +kernel
set_option maxHeartbeats 8000000 in
theorem m_X8_readFresh (l : Launch) (D : va_G) (k : KK) (sz : Nat) (o : Nat) (r : Nat → Nat) (mv : Value) (I : Nat → Int32) (L : Nat → Int64) (tp : Nat → Int32) (fo : Nat) (qf : Nat → Nat) (J : Nat → Int32) (zj : Nat) (gnm : Nat → Int64) (gse : Nat → Int32) (x : Int32) (nN : Nat) (hz : cz k) (hzj : I 7 = nI zj) (hz7 : zj ≤ 700) (hat : atz zj (I 8)) (hJ10 : J 10 = nI nN) (hN9 : nN ≤ 9) (hfr : I 9 = 5 ∨ nN < 9) : Met l yX8_readFresh (ws_ yX8_readFresh cX8_readFresh 2 none) rm_X8_readFresh (pcx D k [.ref o, .int x] sz [(o, eMM r mv (.ref fo) I L), ((r 5), aB k 700 tp), (fo, eMI qf J), ((qf 16), aL k 9 gnm), ((qf 17), aI k 9 gse)] (fun H => oldY k (va_A [(o, eMM r mv (.ref fo) I L), ((r 5), aB k 700 tp), (fo, eMI qf J), ((qf 16), aL k 9 gnm), ((qf 17), aI k 9 gse)] sz) H)) (q_X8_readFresh D k o r mv I L tp fo qf J zj gnm gse x nN (va_A [(o, eMM r mv (.ref fo) I L), ((r 5), aB k 700 tp), (fo, eMI qf J), ((qf 16), aL k 9 gnm), ((qf 17), aI k 9 gse)] sz)) 0 0 (va_A [(o, eMM r mv (.ref fo) I L), ((r 5), aB k 700 tp), (fo, eMI qf J), ((qf 16), aL k 9 gnm), ((qf 17), aI k 9 gse)] sz) := by
  refine Met.start (Qc := q_X8_readFresh D k o r mv I L tp fo qf J zj gnm gse x nN) (by decide) (Nat.le_of_ble_eq_true rfl) ?_
  intro p e s m below meth c A hx hb hr hlocks hml hown hin hts hg hP hD hA hAn hS hY hsz ls hl
  have hown : s.vm.findClass RX8 = some m.cls := hown
  have hl : lv_has ls 2 [(0, .ref o), (1, .int x)] := hl
  have hO := oldY.mono hY hAn
  refine lv_aload_n hx hb dX8_readFresh_0 rfl (lv_at hl 0 rfl) ?_
  refine xc_i (wc := [(o, eMM r mv (.ref fo) I L)]) (wr := [((r 5), aB k 700 tp), (fo, eMI qf J), ((qf 16), aL k 9 gnm), ((qf 17), aI k 9 gse)]) hP hD hS hA [0] [1, 2, 3, 4] rfl rfl rfl (by decide) (xrV ⟨hx, hb, hml, hown, hts⟩ hg (m_X8_isName l D k _ o r mv (.ref fo) I L hz) hP hD [0] rfl rfl (oldY.call hO hS (va_free (wc := [(o, eMM r mv (.ref fo) I L)]) hD hS hA [0] rfl)) (ci := 10) (q0 := 0) rfl rfl rfl q1435 q1437 qs52 q93 q1438 xo_X8_isName ⟨rfl, rfl⟩ ⟨Nat.le_of_ble_eq_true rfl, Nat.le_of_ble_eq_true rfl⟩ hl.1 (Nat.le_of_ble_eq_true rfl) dX8_readFresh_1 ⟨Nat.le_of_ble_eq_true rfl, Nat.le_of_ble_eq_true rfl⟩ rfl) (fun u1 r_ H locs hw hP hD hS hk => ?_)
  obtain ⟨rfl, eu1, bu1⟩ := hw
  replace hP : va_P D vwCl [(o, eMM r mv (.ref fo) I L), ((r 5), aB k 700 tp), (fo, eMI qf J), ((qf 16), aL k 9 gnm), ((qf 17), aI k 9 gse)] H := hP.sub [4, 0, 1, 2, 3] rfl
  replace hD : va_D A [(o, eMM r mv (.ref fo) I L), ((r 5), aB k 700 tp), (fo, eMI qf J), ((qf 16), aL k 9 gnm), ((qf 17), aI k 9 gse)] := hD.sub [4, 0, 1, 2, 3] (by decide) rfl
  have Jn1 : ∀ (v6 : (Int32) × (Int32) × (Int32)) (H : Heap) (locs : List Loc) (ls : Array Slot), v6 = f_X8_readFresh_j1 I u1 → va_P D vwCl [(o, eMM r mv (.ref fo) (upd (upd (upd I 9 v6.1) 13 v6.2.1) 14 v6.2.2) L), ((r 5), aB k 700 tp), (fo, eMI qf J), ((qf 16), aL k 9 gnm), ((qf 17), aI k 9 gse)] H → va_D A [(o, eMM r mv (.ref fo) (upd (upd (upd I 9 v6.1) 13 v6.2.1) 14 v6.2.2) L), ((r 5), aB k 700 tp), (fo, eMI qf J), ((qf 16), aL k 9 gnm), ((qf 17), aI k 9 gse)] → va_S A s.heap H locs → lv_has ls 2 [(0, .ref o), (1, .int x)] → W p l e rm_X8_readFresh s m ([.ref o, .int x] : List Value).toArray below meth c H locs 0 0 (MQ below (q_X8_readFresh D k o r mv I L tp fo qf J zj gnm gse x nN A) ([.ref o, .int x] : List Value).toArray s 0 0 A) (F0 m 12 ls []) := by
    intro v6 H locs ls ev6 hP hD hS hl
    have q5_v6 : (I 9) = 5 → v6.1 = 5 := fun h_ => by rw [ev6]; unfold f_X8_readFresh_j1; (repeat' split) <;> first | exact h_ | exact s5_wrong h_
    refine lv_aload_n hx hb dX8_readFresh_12 rfl (lv_at hl 0 rfl) ?_
    refine va_get (D := D) (ci := 10) (v := .ref fo) (C := RX8) (T := TX8) (N := 37) hx hb hts in_X8 hown hg.1 hP 0 rfl rfl 4 (Nat.le_of_ble_eq_true rfl) (hts _ q1145) (fun _ h9 => h9) rfl dX8_readFresh_13 ?_
    refine lv_aload_n hx hb dX8_readFresh_16 rfl (lv_at hl 0 rfl) ?_
    refine va_get (D := D) (ci := 10) (v := .long (L 15)) (C := RX8) (T := TX8) (N := 37) hx hb hts in_X8 hown hg.1 hP 0 rfl rfl 15 (Nat.le_of_ble_eq_true rfl) (hts _ q1156) (fun _ h9 => h9) rfl dX8_readFresh_17 ?_
    refine xc_i (wc := [(fo, eMI qf J), ((qf 16), aL k 9 gnm)]) (wr := [(o, eMM r mv (.ref fo) (upd (upd (upd I 9 v6.1) 13 v6.2.1) 14 v6.2.2) L), ((r 5), aB k 700 tp), ((qf 17), aI k 9 gse)]) hP hD hS hA [2, 3] [0, 1, 4] rfl rfl rfl (by decide) (xrV ⟨hx, hb, hml, hown, hts⟩ hg (m_X13_find l D k _ fo qf J gnm (L 15) nN hJ10 hN9) hP hD [2, 3] rfl rfl trivial (ci := 11) (q0 := 2) rfl rfl rfl q1444 q1445 q1446 q103 q1447 xo_X13_find ⟨rfl, rfl⟩ ⟨Nat.le_of_ble_eq_true rfl, Nat.le_of_ble_eq_true rfl⟩ hl.1 (Nat.le_of_ble_eq_true rfl) dX8_readFresh_20 ⟨Nat.le_of_ble_eq_true rfl, Nat.le_of_ble_eq_true rfl⟩ rfl) (fun u7 r_ H locs hw hP hD hS hk => ?_)
    obtain ⟨rfl, eu7⟩ := hw
    have fo_u7 : u7 = -1 ∨ ∃ j, j < nN ∧ u7 = nI j := by rw [eu7]; exact fnd_or
    replace hP : va_P D vwCl [(o, eMM r mv (.ref fo) (upd (upd (upd I 9 v6.1) 13 v6.2.1) 14 v6.2.2) L), ((r 5), aB k 700 tp), (fo, eMI qf J), ((qf 16), aL k 9 gnm), ((qf 17), aI k 9 gse)] H := hP.sub [0, 1, 3, 4, 2] rfl
    replace hD : va_D A [(o, eMM r mv (.ref fo) (upd (upd (upd I 9 v6.1) 13 v6.2.1) 14 v6.2.2) L), ((r 5), aB k 700 tp), (fo, eMI qf J), ((qf 16), aL k 9 gnm), ((qf 17), aI k 9 gse)] := hD.sub [0, 1, 3, 4, 2] (by decide) rfl
    refine lv_iconst (v := (-1)) hx hb dX8_readFresh_23 ci_m1 ?_
    have Jn2 : ∀ (v12 : (Int32) × (Int32) × (Int32)) (H : Heap) (locs : List Loc) (ls : Array Slot), v12 = f_X8_readFresh_j2 I v6 u7 → va_P D vwCl [(o, eMM r mv (.ref fo) (upd (upd (upd I 9 v12.1) 13 v12.2.1) 14 v12.2.2) L), ((r 5), aB k 700 tp), (fo, eMI qf J), ((qf 16), aL k 9 gnm), ((qf 17), aI k 9 gse)] H → va_D A [(o, eMM r mv (.ref fo) (upd (upd (upd I 9 v12.1) 13 v12.2.1) 14 v12.2.2) L), ((r 5), aB k 700 tp), (fo, eMI qf J), ((qf 16), aL k 9 gnm), ((qf 17), aI k 9 gse)] → va_S A s.heap H locs → lv_has ls 2 [(0, .ref o), (1, .int x)] → W p l e rm_X8_readFresh s m ([.ref o, .int x] : List Value).toArray below meth c H locs 0 0 (MQ below (q_X8_readFresh D k o r mv I L tp fo qf J zj gnm gse x nN A) ([.ref o, .int x] : List Value).toArray s 0 0 A) (F0 m 32 ls []) := by
      intro v12 H locs ls ev12 hP hD hS hl
      have q5_v12 : v6.1 = 5 → v12.1 = 5 := fun h_ => by rw [ev12]; unfold f_X8_readFresh_j2; (repeat' split) <;> first | exact h_ | exact s5_wrong h_
      refine lv_aload_n hx hb dX8_readFresh_32 rfl (lv_at hl 0 rfl) ?_
      refine va_get (D := D) (ci := 10) (v := .int v12.1) (C := RX8) (T := TX8) (N := 37) hx hb hts in_X8 hown hg.1 hP 0 rfl rfl 9 (Nat.le_of_ble_eq_true rfl) (hts _ q1150) (fun _ h9 => h9) rfl dX8_readFresh_33 ?_
      refine lv_iconst (v := 5) hx hb dX8_readFresh_36 ci_5 ?_
      refine lv_icmp_ne (tgt := 41) hx hb dX8_readFresh_37 (by decide) (fun c13 => ?_) (fun c13 => ?_)
      · have hne : ¬ I 9 = 5 := fun h_ => c13 ((fun h_ => q5_v12 (q5_v6 (h_))) h_)
        have hN : nN < 9 := hfr.resolve_left hne
        refine lv_aload_n hx hb dX8_readFresh_41 rfl (lv_at hl 0 rfl) ?_
        refine va_get (D := D) (ci := 10) (v := .ref fo) (C := RX8) (T := TX8) (N := 37) hx hb hts in_X8 hown hg.1 hP 0 rfl rfl 4 (Nat.le_of_ble_eq_true rfl) (hts _ q1145) (fun _ h9 => h9) rfl dX8_readFresh_42 ?_
        refine va_getN (D := D) (ci := 11) (v := .ref (qf 16)) (C := RX13) (T := TX13) (N := 18) hx hb hts in_X13 hown hg.1 hP 2 rfl rfl 16 (Nat.le_of_ble_eq_true rfl) (nwF_256 hg) (fun _ h9 => h9) rfl dX8_readFresh_45 ?_
        refine lv_aload_n hx hb dX8_readFresh_48 rfl (lv_at hl 0 rfl) ?_
        refine va_get (D := D) (ci := 10) (v := .ref fo) (C := RX8) (T := TX8) (N := 37) hx hb hts in_X8 hown hg.1 hP 0 rfl rfl 4 (Nat.le_of_ble_eq_true rfl) (hts _ q1145) (fun _ h9 => h9) rfl dX8_readFresh_49 ?_
        refine va_getN (D := D) (ci := 11) (v := .int (J 10)) (C := RX13) (T := TX13) (N := 18) hx hb hts in_X13 hown hg.1 hP 2 rfl rfl 10 (Nat.le_of_ble_eq_true rfl) (nwF_259 hg) (fun _ h9 => h9) rfl dX8_readFresh_52 ?_
        refine lv_aload_n hx hb dX8_readFresh_55 rfl (lv_at hl 0 rfl) ?_
        refine va_get (D := D) (ci := 10) (v := .long (L 15)) (C := RX8) (T := TX8) (N := 37) hx hb hts in_X8 hown hg.1 hP 0 rfl rfl 15 (Nat.le_of_ble_eq_true rfl) (hts _ q1156) (fun _ h9 => h9) rfl dX8_readFresh_56 ?_
        refine lv_topl (fun x14 ex14 => ?_)
        refine xa_last hx hb hg hP hD hS 3 rfl hJ10 (by omega) (by omega) dX8_readFresh_59 (fun f15 H locs ef15 hP hD hS => ?_)
        replace hP : va_P D vwCl [(o, eMM r mv (.ref fo) (upd (upd (upd I 9 v12.1) 13 v12.2.1) 14 v12.2.2) L), ((r 5), aB k 700 tp), (fo, eMI qf J), ((qf 16), aL k 9 f15), ((qf 17), aI k 9 gse)] H := hP
        replace hD : va_D A [(o, eMM r mv (.ref fo) (upd (upd (upd I 9 v12.1) 13 v12.2.1) 14 v12.2.2) L), ((r 5), aB k 700 tp), (fo, eMI qf J), ((qf 16), aL k 9 f15), ((qf 17), aI k 9 gse)] := hD
        refine lv_aload_n hx hb dX8_readFresh_60 rfl (lv_at hl 0 rfl) ?_
        refine va_get (D := D) (ci := 10) (v := .ref fo) (C := RX8) (T := TX8) (N := 37) hx hb hts in_X8 hown hg.1 hP 0 rfl rfl 4 (Nat.le_of_ble_eq_true rfl) (hts _ q1145) (fun _ h9 => h9) rfl dX8_readFresh_61 ?_
        refine va_getN (D := D) (ci := 11) (v := .ref (qf 17)) (C := RX13) (T := TX13) (N := 18) hx hb hts in_X13 hown hg.1 hP 2 rfl rfl 17 (Nat.le_of_ble_eq_true rfl) (nwF_243 hg) (fun _ h9 => h9) rfl dX8_readFresh_64 ?_
        refine lv_aload_n hx hb dX8_readFresh_67 rfl (lv_at hl 0 rfl) ?_
        refine va_get (D := D) (ci := 10) (v := .ref fo) (C := RX8) (T := TX8) (N := 37) hx hb hts in_X8 hown hg.1 hP 0 rfl rfl 4 (Nat.le_of_ble_eq_true rfl) (hts _ q1145) (fun _ h9 => h9) rfl dX8_readFresh_68 ?_
        refine va_getN (D := D) (ci := 11) (v := .int (J 10)) (C := RX13) (T := TX13) (N := 18) hx hb hts in_X13 hown hg.1 hP 2 rfl rfl 10 (Nat.le_of_ble_eq_true rfl) (nwF_259 hg) (fun _ h9 => h9) rfl dX8_readFresh_71 ?_
        refine lv_iload_n hx hb dX8_readFresh_74 rfl (lv_at hl 1 rfl) ?_
        refine xa_iast hx hb hg hP hD hS 4 rfl hJ10 (by omega) (by omega) dX8_readFresh_75 (fun f16 H locs ef16 hP hD hS => ?_)
        replace hP : va_P D vwCl [(o, eMM r mv (.ref fo) (upd (upd (upd I 9 v12.1) 13 v12.2.1) 14 v12.2.2) L), ((r 5), aB k 700 tp), (fo, eMI qf J), ((qf 16), aL k 9 f15), ((qf 17), aI k 9 f16)] H := hP
        replace hD : va_D A [(o, eMM r mv (.ref fo) (upd (upd (upd I 9 v12.1) 13 v12.2.1) 14 v12.2.2) L), ((r 5), aB k 700 tp), (fo, eMI qf J), ((qf 16), aL k 9 f15), ((qf 17), aI k 9 f16)] := hD
        refine lv_aload_n hx hb dX8_readFresh_76 rfl (lv_at hl 0 rfl) ?_
        refine va_get (D := D) (ci := 10) (v := .ref fo) (C := RX8) (T := TX8) (N := 37) hx hb hts in_X8 hown hg.1 hP 0 rfl rfl 4 (Nat.le_of_ble_eq_true rfl) (hts _ q1145) (fun _ h9 => h9) rfl dX8_readFresh_77 ?_
        refine lv_dup hx hb dX8_readFresh_80 rfl ?_
        refine va_getN (D := D) (ci := 11) (v := .int (J 10)) (C := RX13) (T := TX13) (N := 18) hx hb hts in_X13 hown hg.1 hP 2 rfl rfl 10 (Nat.le_of_ble_eq_true rfl) (nwF_259 hg) (fun _ h9 => h9) rfl dX8_readFresh_81 ?_
        refine lv_iconst (v := 1) hx hb dX8_readFresh_84 ci_1 ?_
        refine lv_iadd hx hb dX8_readFresh_85 ?_
        refine lv_topi (fun x17 ex17 => ?_)
        refine va_putN (D := D) (ci := 11) (v := .int x17) (C := RX13) (T := TX13) (N := 18) hx hb hts in_X13 tyX13 tyX13_ok nmX13 hown hg.1 hP hD hS 2 rfl rfl 10 (Nat.le_of_ble_eq_true rfl) (nwF_259 hg) (fun _ h9 => h9) rfl ftX13_10 rfl rfl (Nat.le_of_ble_eq_true rfl) dX8_readFresh_86 (fun H locs hP hD hS => ?_)
        replace hP : va_P D vwCl [(o, eMM r mv (.ref fo) (upd (upd (upd I 9 v12.1) 13 v12.2.1) 14 v12.2.2) L), ((r 5), aB k 700 tp), (fo, eMI qf (upd J 10 x17)), ((qf 16), aL k 9 f15), ((qf 17), aI k 9 f16)] H := hP
        replace hD : va_D A [(o, eMM r mv (.ref fo) (upd (upd (upd I 9 v12.1) 13 v12.2.1) 14 v12.2.2) L), ((r 5), aB k 700 tp), (fo, eMI qf (upd J 10 x17)), ((qf 16), aL k 9 f15), ((qf 17), aI k 9 f16)] := hD
        refine lv_aload_n hx hb dX8_readFresh_89 rfl (lv_at hl 0 rfl) ?_
        refine xc_v (wc := [(o, eMM r mv (.ref fo) (upd (upd (upd I 9 v12.1) 13 v12.2.1) 14 v12.2.2) L), ((r 5), aB k 700 tp)]) (wr := [(fo, eMI qf (upd J 10 x17)), ((qf 16), aL k 9 f15), ((qf 17), aI k 9 f16)]) hP hD hS hA [0, 1] [2, 3, 4] rfl rfl rfl (by decide) (xrV ⟨hx, hb, hml, hown, hts⟩ hg (m_X8_next l D k _ o r mv (.ref fo) (upd (upd (upd I 9 v12.1) 13 v12.2.1) 14 v12.2.2) L tp zj hzj hz7 hat) hP hD [0, 1] rfl rfl trivial (ci := 10) (q0 := 0) rfl rfl rfl q1342 q1344 qs40 q93 q1345 xo_X8_next ⟨rfl, rfl⟩ ⟨Nat.le_of_ble_eq_true rfl, Nat.le_of_ble_eq_true rfl⟩ hl.1 (Nat.le_of_ble_eq_true rfl) dX8_readFresh_90 ⟨Nat.le_of_ble_eq_true rfl, Nat.le_of_ble_eq_true rfl⟩ rfl) (fun u18 H locs hw hP hD hS hk => ?_)
        have eu18 := hw
        have pu18_at : atz zj u18.1 := by rw [eu18]; exact nx_at hzj hz7 hat
        have q5_u18 : v12.1 = 5 → u18.2.1 = 5 := fun h_ => by rw [eu18]; exact s5_next h_
        have ad_u18 : adv (I 8) u18.1 u18.2.1 := (by rw [eu18]; exact adv_next (I := upd (upd (upd I 9 v12.1) 13 v12.2.1) 14 v12.2.2) hzj hz7 hat)
        replace hP : va_P D vwCl [(o, eMM r mv (.ref fo) (upd (upd (upd (upd (upd (upd (upd I 13 v12.2.1) 14 v12.2.2) 8 u18.1) 9 u18.2.1) 10 u18.2.2.1) 11 u18.2.2.2.1) 12 u18.2.2.2.2.1) (vp_updL L 15 u18.2.2.2.2.2)), ((r 5), aB k 700 tp), (fo, eMI qf (upd J 10 x17)), ((qf 16), aL k 9 f15), ((qf 17), aI k 9 f16)] H := hP.sub [3, 4, 0, 1, 2] rfl
        replace hD : va_D A [(o, eMM r mv (.ref fo) (upd (upd (upd (upd (upd (upd (upd I 13 v12.2.1) 14 v12.2.2) 8 u18.1) 9 u18.2.1) 10 u18.2.2.1) 11 u18.2.2.2.1) 12 u18.2.2.2.2.1) (vp_updL L 15 u18.2.2.2.2.2)), ((r 5), aB k 700 tp), (fo, eMI qf (upd J 10 x17)), ((qf 16), aL k 9 f15), ((qf 17), aI k 9 f16)] := hD.sub [3, 4, 0, 1, 2] (by decide) rfl
        exact xret_v hx hb hr hlocks (Nat.le_of_ble_eq_true rfl) (Nat.le_of_ble_eq_true rfl) hS.2.2 dX8_readFresh_93 (fun t ht => ⟨⟨(u18.1, u18.2.1, u18.2.2.1, u18.2.2.2.1, u18.2.2.2.2.1, v12.2.1, v12.2.2, u18.2.2.2.2.2, x17, f15, f16), rfl, ⟨(by subst eu18; subst ex17; subst ef16; subst ef15; subst ex14; subst ev12; subst eu7; subst ev6; subst eu1; exact Eq.symm (Eq.trans (if_neg c13) (rfl))), pu18_at, ⟨nN + 1, (ex17.trans (xnadd hJ10 xl_1)), by omega, Or.inr rfl⟩, ad_u18, (fun h_ => q5_u18 (q5_v12 (q5_v6 (h_))))⟩, by rw [ht]; exact hP, hD⟩, hS.F ht⟩)
      · exact xret_v hx hb hr hlocks (Nat.le_of_ble_eq_true rfl) (Nat.le_of_ble_eq_true rfl) hS.2.2 dX8_readFresh_40 (fun t ht => ⟨⟨((I 8), v12.1, (I 10), (I 11), (I 12), v12.2.1, v12.2.2, (L 15), (J 10), gnm, gse), rfl, ⟨(by subst ev12; subst eu7; subst ev6; subst eu1; exact Eq.symm (Eq.trans (if_pos c13) (rfl))), hat, ⟨nN, hJ10, hN9, Or.inl c13⟩, adv.here c13, (fun h_ => q5_v12 (q5_v6 (h_)))⟩, by rw [ht]; exact hP, hD⟩, hS.F ht⟩)
    refine lv_icmp_eq (tgt := 32) hx hb dX8_readFresh_24 (by decide) (fun c19 => ?_) (fun c19 => ?_)
    · exact Jn2 (v6.1, v6.2.1, v6.2.2) _ _ _ (by exact Eq.symm (Eq.trans (if_pos c19) (rfl))) hP hD hS (lv_sub hl [0, 1] rfl)
    · refine lv_aload_n hx hb dX8_readFresh_27 rfl (lv_at hl 0 rfl) ?_
      refine lv_iconst (v := 3) hx hb dX8_readFresh_28 ci_3 ?_
      refine xc_v (wc := [(o, eMM r mv (.ref fo) (upd (upd (upd I 9 v6.1) 13 v6.2.1) 14 v6.2.2) L)]) (wr := [((r 5), aB k 700 tp), (fo, eMI qf J), ((qf 16), aL k 9 gnm), ((qf 17), aI k 9 gse)]) hP hD hS hA [0] [1, 2, 3, 4] rfl rfl rfl (by decide) (xrV ⟨hx, hb, hml, hown, hts⟩ hg (m_X8_wrong l D k _ o r mv (.ref fo) (upd (upd (upd I 9 v6.1) 13 v6.2.1) 14 v6.2.2) L 3) hP hD [0] rfl rfl trivial (ci := 10) (q0 := 0) rfl rfl rfl q1409 q1411 qs47 q93 q1412 xo_X8_wrong ⟨rfl, rfl⟩ ⟨Nat.le_of_ble_eq_true rfl, Nat.le_of_ble_eq_true rfl⟩ hl.1 (Nat.le_of_ble_eq_true rfl) dX8_readFresh_29 ⟨Nat.le_of_ble_eq_true rfl, Nat.le_of_ble_eq_true rfl⟩ rfl) (fun u20 H locs hw hP hD hS hk => ?_)
      have eu20 := hw
      have q5_u20 : v6.1 = 5 → u20.1 = 5 := fun h_ => by rw [eu20]; exact s5_wrong h_
      replace hP : va_P D vwCl [(o, eMM r mv (.ref fo) (upd (upd (upd I 9 u20.1) 13 u20.2.1) 14 u20.2.2) L), ((r 5), aB k 700 tp), (fo, eMI qf J), ((qf 16), aL k 9 gnm), ((qf 17), aI k 9 gse)] H := hP.sub [4, 0, 1, 2, 3] rfl
      replace hD : va_D A [(o, eMM r mv (.ref fo) (upd (upd (upd I 9 u20.1) 13 u20.2.1) 14 u20.2.2) L), ((r 5), aB k 700 tp), (fo, eMI qf J), ((qf 16), aL k 9 gnm), ((qf 17), aI k 9 gse)] := hD.sub [4, 0, 1, 2, 3] (by decide) rfl
      exact Jn2 (u20.1, u20.2.1, u20.2.2) _ _ _ (by subst eu20; exact Eq.symm (Eq.trans (if_neg c19) (rfl))) hP hD hS (lv_sub hl [0, 1] rfl)
  refine lv_if_ne (tgt := 12) hx hb dX8_readFresh_4 (by decide) (fun c21 => ?_) (fun c21 => ?_)
  · exact Jn1 ((I 9), (I 13), (I 14)) _ _ _ (by exact Eq.symm (Eq.trans (if_neg c21) (rfl))) hP hD hS (lv_sub hl [0, 1] rfl)
  · refine lv_aload_n hx hb dX8_readFresh_7 rfl (lv_at hl 0 rfl) ?_
    refine lv_iconst (v := 1) hx hb dX8_readFresh_8 ci_1 ?_
    refine xc_v (wc := [(o, eMM r mv (.ref fo) I L)]) (wr := [((r 5), aB k 700 tp), (fo, eMI qf J), ((qf 16), aL k 9 gnm), ((qf 17), aI k 9 gse)]) hP hD hS hA [0] [1, 2, 3, 4] rfl rfl rfl (by decide) (xrV ⟨hx, hb, hml, hown, hts⟩ hg (m_X8_wrong l D k _ o r mv (.ref fo) I L 1) hP hD [0] rfl rfl trivial (ci := 10) (q0 := 0) rfl rfl rfl q1409 q1411 qs47 q93 q1412 xo_X8_wrong ⟨rfl, rfl⟩ ⟨Nat.le_of_ble_eq_true rfl, Nat.le_of_ble_eq_true rfl⟩ hl.1 (Nat.le_of_ble_eq_true rfl) dX8_readFresh_9 ⟨Nat.le_of_ble_eq_true rfl, Nat.le_of_ble_eq_true rfl⟩ rfl) (fun u22 H locs hw hP hD hS hk => ?_)
    have eu22 := hw
    have q5_u22 : (I 9) = 5 → u22.1 = 5 := fun h_ => by rw [eu22]; exact s5_wrong h_
    replace hP : va_P D vwCl [(o, eMM r mv (.ref fo) (upd (upd (upd I 9 u22.1) 13 u22.2.1) 14 u22.2.2) L), ((r 5), aB k 700 tp), (fo, eMI qf J), ((qf 16), aL k 9 gnm), ((qf 17), aI k 9 gse)] H := hP.sub [4, 0, 1, 2, 3] rfl
    replace hD : va_D A [(o, eMM r mv (.ref fo) (upd (upd (upd I 9 u22.1) 13 u22.2.1) 14 u22.2.2) L), ((r 5), aB k 700 tp), (fo, eMI qf J), ((qf 16), aL k 9 gnm), ((qf 17), aI k 9 gse)] := hD.sub [4, 0, 1, 2, 3] (by decide) rfl
    exact Jn1 (u22.1, u22.2.1, u22.2.2) _ _ _ (by subst eu22; exact Eq.symm (Eq.trans (if_pos c21) (rfl))) hP hD hS (lv_sub hl [0, 1] rfl)
