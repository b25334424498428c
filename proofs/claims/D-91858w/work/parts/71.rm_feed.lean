set_option maxRecDepth 100000
def f_X1_feed (I : Nat → Int32) (tp : Nat → Int32) (x : Int32) (y : Int32) (z : Int32) (v : Int32) (w5 : Int32) (tj : Nat) : Int32 × Int32 × (Nat → Int32) :=
  if ((I 1) + 20) ≤ 700 then
    let u2 := f_X1_bytes I tp x (tj)
    let u3 := f_X1_bytes (upd I 1 u2.1) u2.2 y (tj + 4)
    let u4 := f_X1_bytes (upd I 1 u3.1) u3.2 z (tj + 4 + 4)
    let u5 := f_X1_bytes (upd I 1 u4.1) u4.2 v (tj + 4 + 4 + 4)
    let u6 := f_X1_bytes (upd I 1 u5.1) u5.2 w5 (tj + 4 + 4 + 4 + 4)
    (u6.1, u6.1, u6.2)
  else
    ((-1), (I 1), tp)
abbrev q_X1_feed (D : va_G) (k : KK) (o : Nat) (r : Nat → Nat) (I : Nat → Int32) (L : Nat → Int64) (w : Value) (tp : Nat → Int32) (x : Int32) (y : Int32) (z : Int32) (v : Int32) (w5 : Int32) (tj : Nat) (A : Nat → Prop) : Array Value → State → Outcome → State → Prop := va_Qi (fun (r_ : Int32) (u : Int32 × Int32 × (Nat → Int32)) => r_ = u.1 ∧ u = f_X1_feed I tp x y z v w5 tj) (bx D (fun u => [(o, eRM r w (upd I 1 u.2.1) L), ((r 0), aB k 700 u.2.2)]) A) A
abbrev rm_X1_feed : Room := { frames := 2, cells := 0, slots := 0, locals := 80 }
theorem xo_X1_feed : xok yX1_feed 5 := by unfold xok; decide +kernel
set_option maxHeartbeats 8000000 in
theorem m_X1_feed (l : Launch) (D : va_G) (k : KK) (sz : Nat) (o : Nat) (r : Nat → Nat) (I : Nat → Int32) (L : Nat → Int64) (w : Value) (tp : Nat → Int32) (x : Int32) (y : Int32) (z : Int32) (v : Int32) (w5 : Int32) (tj : Nat) (htj : I 1 = nI tj) (ht7 : tj ≤ 700) : Met l yX1_feed (ws_ yX1_feed cX1_feed 6 (some .int)) rm_X1_feed (pcx D k [.ref o, .int x, .int y, .int z, .int v, .int w5] sz [(o, eRM r w I L), ((r 0), aB k 700 tp)] (fun _ => True)) (q_X1_feed D k o r I L w tp x y z v w5 tj (va_A [(o, eRM r w I L), ((r 0), aB k 700 tp)] sz)) 0 0 (va_A [(o, eRM r w I L), ((r 0), aB k 700 tp)] sz) := by
  refine Met.start (Qc := q_X1_feed D k o r I L w tp x y z v w5 tj) (by decide) (Nat.le_of_ble_eq_true rfl) ?_
  intro p e s m below meth c A hx hb hr hlocks hml hown hin hts hg hP hD hA hAn hS hY hsz ls hl
  have hown : s.vm.findClass RX1 = some m.cls := hown
  have hl : lv_has ls 6 [(0, .ref o), (1, .int x), (2, .int y), (3, .int z), (4, .int v), (5, .int w5)] := hl
  refine lv_aload_n hx hb dX1_feed_0 rfl (lv_at hl 0 rfl) ?_
  refine va_get (D := D) (ci := 0) (v := .int (I 1)) (C := RX1) (T := TX1) (N := 29) hx hb hts in_X1 hown hg.1 hP 0 rfl rfl 1 (Nat.le_of_ble_eq_true rfl) (hts _ q365) (fun _ h9 => h9) rfl dX1_feed_1 ?_
  refine lv_bipush (v := 20) hx hb dX1_feed_4 cb_20 ?_
  refine lv_iadd hx hb dX1_feed_6 ?_
  refine lv_sipush (v := 700) hx hb dX1_feed_7 cs_700 ?_
  refine lv_icmp_le (tgt := 15) hx hb dX1_feed_10 (by decide) (fun c1 => ?_) (fun c1 => ?_)
  · have hroom := fd_room htj ht7 c1
    refine lv_aload_n hx hb dX1_feed_15 rfl (lv_at hl 0 rfl) ?_
    refine lv_iload_n hx hb dX1_feed_16 rfl (lv_at hl 1 rfl) ?_
    refine xc_v (wc := [(o, eRM r w I L), ((r 0), aB k 700 tp)]) (wr := []) hP hD hS hA [0, 1] [] rfl rfl rfl (by decide) (xrV ⟨hx, hb, hml, hown, hts⟩ hg (m_X1_bytes l D k _ o r I L w tp x (tj) htj (by omega)) hP hD [0, 1] rfl rfl trivial (ci := 0) (q0 := 0) rfl rfl rfl q456 q458 qs1 q83 q459 xo_X1_bytes ⟨rfl, rfl⟩ ⟨Nat.le_of_ble_eq_true rfl, Nat.le_of_ble_eq_true rfl⟩ hl.1 (Nat.le_of_ble_eq_true rfl) dX1_feed_17 ⟨Nat.le_of_ble_eq_true rfl, Nat.le_of_ble_eq_true rfl⟩ rfl) (fun u2 H locs hw hP hD hS hk => ?_)
    have eu2 := hw
    replace hP : va_P D vwCl [(o, eRM r w (upd I 1 u2.1) L), ((r 0), aB k 700 u2.2)] H := hP.sub [0, 1] rfl
    replace hD : va_D A [(o, eRM r w (upd I 1 u2.1) L), ((r 0), aB k 700 u2.2)] := hD.sub [0, 1] (by decide) rfl
    refine lv_aload_n hx hb dX1_feed_20 rfl (lv_at hl 0 rfl) ?_
    refine lv_iload_n hx hb dX1_feed_21 rfl (lv_at hl 2 rfl) ?_
    refine xc_v (wc := [(o, eRM r w (upd I 1 u2.1) L), ((r 0), aB k 700 u2.2)]) (wr := []) hP hD hS hA [0, 1] [] rfl rfl rfl (by decide) (xrV ⟨hx, hb, hml, hown, hts⟩ hg (m_X1_bytes l D k _ o r (upd I 1 u2.1) L w u2.2 y (tj + 4) (fd_t eu2 htj) (by omega)) hP hD [0, 1] rfl rfl trivial (ci := 0) (q0 := 0) rfl rfl rfl q456 q458 qs1 q83 q459 xo_X1_bytes ⟨rfl, rfl⟩ ⟨Nat.le_of_ble_eq_true rfl, Nat.le_of_ble_eq_true rfl⟩ hl.1 (Nat.le_of_ble_eq_true rfl) dX1_feed_22 ⟨Nat.le_of_ble_eq_true rfl, Nat.le_of_ble_eq_true rfl⟩ rfl) (fun u3 H locs hw hP hD hS hk => ?_)
    have eu3 := hw
    replace hP : va_P D vwCl [(o, eRM r w (upd I 1 u3.1) L), ((r 0), aB k 700 u3.2)] H := hP.sub [0, 1] rfl
    replace hD : va_D A [(o, eRM r w (upd I 1 u3.1) L), ((r 0), aB k 700 u3.2)] := hD.sub [0, 1] (by decide) rfl
    refine lv_aload_n hx hb dX1_feed_25 rfl (lv_at hl 0 rfl) ?_
    refine lv_iload_n hx hb dX1_feed_26 rfl (lv_at hl 3 rfl) ?_
    refine xc_v (wc := [(o, eRM r w (upd I 1 u3.1) L), ((r 0), aB k 700 u3.2)]) (wr := []) hP hD hS hA [0, 1] [] rfl rfl rfl (by decide) (xrV ⟨hx, hb, hml, hown, hts⟩ hg (m_X1_bytes l D k _ o r (upd I 1 u3.1) L w u3.2 z (tj + 4 + 4) (fd_t eu3 (fd_t eu2 htj)) (by omega)) hP hD [0, 1] rfl rfl trivial (ci := 0) (q0 := 0) rfl rfl rfl q456 q458 qs1 q83 q459 xo_X1_bytes ⟨rfl, rfl⟩ ⟨Nat.le_of_ble_eq_true rfl, Nat.le_of_ble_eq_true rfl⟩ hl.1 (Nat.le_of_ble_eq_true rfl) dX1_feed_27 ⟨Nat.le_of_ble_eq_true rfl, Nat.le_of_ble_eq_true rfl⟩ rfl) (fun u4 H locs hw hP hD hS hk => ?_)
    have eu4 := hw
    replace hP : va_P D vwCl [(o, eRM r w (upd I 1 u4.1) L), ((r 0), aB k 700 u4.2)] H := hP.sub [0, 1] rfl
    replace hD : va_D A [(o, eRM r w (upd I 1 u4.1) L), ((r 0), aB k 700 u4.2)] := hD.sub [0, 1] (by decide) rfl
    refine lv_aload_n hx hb dX1_feed_30 rfl (lv_at hl 0 rfl) ?_
    refine lv_iload hx hb dX1_feed_31 (lv_at hl 4 rfl) ?_
    refine xc_v (wc := [(o, eRM r w (upd I 1 u4.1) L), ((r 0), aB k 700 u4.2)]) (wr := []) hP hD hS hA [0, 1] [] rfl rfl rfl (by decide) (xrV ⟨hx, hb, hml, hown, hts⟩ hg (m_X1_bytes l D k _ o r (upd I 1 u4.1) L w u4.2 v (tj + 4 + 4 + 4) (fd_t eu4 (fd_t eu3 (fd_t eu2 htj))) (by omega)) hP hD [0, 1] rfl rfl trivial (ci := 0) (q0 := 0) rfl rfl rfl q456 q458 qs1 q83 q459 xo_X1_bytes ⟨rfl, rfl⟩ ⟨Nat.le_of_ble_eq_true rfl, Nat.le_of_ble_eq_true rfl⟩ hl.1 (Nat.le_of_ble_eq_true rfl) dX1_feed_33 ⟨Nat.le_of_ble_eq_true rfl, Nat.le_of_ble_eq_true rfl⟩ rfl) (fun u5 H locs hw hP hD hS hk => ?_)
    have eu5 := hw
    replace hP : va_P D vwCl [(o, eRM r w (upd I 1 u5.1) L), ((r 0), aB k 700 u5.2)] H := hP.sub [0, 1] rfl
    replace hD : va_D A [(o, eRM r w (upd I 1 u5.1) L), ((r 0), aB k 700 u5.2)] := hD.sub [0, 1] (by decide) rfl
    refine lv_aload_n hx hb dX1_feed_36 rfl (lv_at hl 0 rfl) ?_
    refine lv_iload hx hb dX1_feed_37 (lv_at hl 5 rfl) ?_
    refine xc_v (wc := [(o, eRM r w (upd I 1 u5.1) L), ((r 0), aB k 700 u5.2)]) (wr := []) hP hD hS hA [0, 1] [] rfl rfl rfl (by decide) (xrV ⟨hx, hb, hml, hown, hts⟩ hg (m_X1_bytes l D k _ o r (upd I 1 u5.1) L w u5.2 w5 (tj + 4 + 4 + 4 + 4) (fd_t eu5 (fd_t eu4 (fd_t eu3 (fd_t eu2 htj)))) (by omega)) hP hD [0, 1] rfl rfl trivial (ci := 0) (q0 := 0) rfl rfl rfl q456 q458 qs1 q83 q459 xo_X1_bytes ⟨rfl, rfl⟩ ⟨Nat.le_of_ble_eq_true rfl, Nat.le_of_ble_eq_true rfl⟩ hl.1 (Nat.le_of_ble_eq_true rfl) dX1_feed_39 ⟨Nat.le_of_ble_eq_true rfl, Nat.le_of_ble_eq_true rfl⟩ rfl) (fun u6 H locs hw hP hD hS hk => ?_)
    have eu6 := hw
    replace hP : va_P D vwCl [(o, eRM r w (upd I 1 u6.1) L), ((r 0), aB k 700 u6.2)] H := hP.sub [0, 1] rfl
    replace hD : va_D A [(o, eRM r w (upd I 1 u6.1) L), ((r 0), aB k 700 u6.2)] := hD.sub [0, 1] (by decide) rfl
    refine lv_aload_n hx hb dX1_feed_42 rfl (lv_at hl 0 rfl) ?_
    refine va_get (D := D) (ci := 0) (v := .int u6.1) (C := RX1) (T := TX1) (N := 29) hx hb hts in_X1 hown hg.1 hP 0 rfl rfl 1 (Nat.le_of_ble_eq_true rfl) (hts _ q365) (fun _ h9 => h9) rfl dX1_feed_43 ?_
    exact xret_i hx hb hr hlocks (Nat.le_of_ble_eq_true rfl) (Nat.le_of_ble_eq_true rfl) hS.2.2 dX1_feed_46 (fun t ht => ⟨⟨u6.1, (u6.1, u6.1, u6.2), rfl, ⟨rfl, (by subst eu6; subst eu5; subst eu4; subst eu3; subst eu2; exact Eq.symm (Eq.trans (if_pos c1) (rfl)))⟩, by rw [ht]; exact hP, hD⟩, hS.F ht⟩)
  · refine lv_iconst (v := (-1)) hx hb dX1_feed_13 ci_m1 ?_
    exact xret_i hx hb hr hlocks (Nat.le_of_ble_eq_true rfl) (Nat.le_of_ble_eq_true rfl) hS.2.2 dX1_feed_14 (fun t ht => ⟨⟨(-1), ((-1), (I 1), tp), rfl, ⟨rfl, (by exact Eq.symm (Eq.trans (if_neg c1) (rfl)))⟩, by rw [ht]; exact hP, hD⟩, hS.F ht⟩)
