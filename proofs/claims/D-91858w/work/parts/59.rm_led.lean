set_option maxRecDepth 100000
def f_X7_goes_j10 (te : Int32) (WI : Nat → Int32) (i71 : Nat) (x102 : Int64) : (Int64) :=
  if (WI 8) ≤ nI i71 then
    x102
  else
    ((x102 * ((if (te * (WI 9)) < 100 then (te * (WI 9)) else 100).toInt64)) / 100)
def f_X7_goes_l185 (wt : Int32) (te : Int32) (WI : Nat → Int32) (i71 : Nat) (X71 : (Int64) × (Nat → Int64) × (Nat → Int64)) : (Int64) × (Nat → Int64) × (Nat → Int64) :=
  let x102 := (((X71.2.1 i71) * ((20 + (10 * wt)).toInt64)) / 100)
  let v105 := f_X7_goes_j10 te WI i71 x102
  let x106 := ((X71.2.1 i71) - x102)
  let f107 := vp_updL X71.2.1 i71 x106
  let x108 := (x102 - v105)
  let f109 := vp_updL X71.2.2 i71 x108
  let x110 := (X71.1 + v105)
  (x110, f107, f109)
def f_X7_goes_j12 (n13 : Nat) (x112 : Int64) (v115 : (Int64)) (f119 : Nat → Int64) : (Nat → Int64) :=
  if (lg_cmp x112 v115) ≤ 0 then
    f119
  else
    let x128 := ((f119 (n13 + 2)) + (x112 - v115))
    let f129 := vp_updL f119 (n13 + 2) x128
    f129
def f_X7_goes_j11 (WI : Nat → Int32) (SI : Nat → Nat → Int32) (n13 : Nat) (x112 : Int64) : (Int64) :=
  if (WI 3) ≤ ((nI n13) + 2) then
    x112
  else
    ((x112 * (((SI n13) 2).toInt64)) / 100)
def f_X7_goes_l56 (ef : Int32) (WI : Nat → Int32) (SI : Nat → Nat → Int32) (n13 : Nat) (X13 : (Nat → Int64)) : (Nat → Int64) :=
  let x112 := ((((X13 n13) * (((SI n13) 1).toInt64)) * (ef.toInt64)) / 10000)
  let v115 := f_X7_goes_j11 WI SI n13 x112
  let x116 := ((X13 n13) - x112)
  let f117 := vp_updL X13 n13 x116
  let x118 := ((f117 (n13 + 1)) + v115)
  let f119 := vp_updL f117 (n13 + 1) x118
  let v126 := f_X7_goes_j12 n13 x112 v115 f119
  v126
def f_X7_goes_l3  (i1 : Nat) (X1 : (Nat → Int64) × (Nat → Int64)) : (Nat → Int64) × (Nat → Int64) :=
  let x131 := ((X1.1 i1) + (X1.2 i1))
  let f132 := vp_updL X1.1 i1 x131
  let f133 := vp_updL X1.2 i1 0
  (f132, f133)
def f_X7_goes (LL : Nat → Int64) (lh : Nat → Int64) (lb : Nat → Int64) (sd_ : Int32) (ef : Int32) (wt : Int32) (te : Int32) (WI : Nat → Int32) (SI : Nat → Nat → Int32) (nS : Nat) : Int64 × (Nat → Int64) × (Nat → Int64) :=
  let X1 := itN (f_X7_goes_l3) nS (lh, lb)
  if sd_ = 0 then
    let x12 := ((WI 3) - 2)
    let X13 := itD (f_X7_goes_l56 ef WI SI) (nS - 1) X1.1
    let X71 := itN (f_X7_goes_l185 wt te WI) nS ((LL 2), X13, X1.2)
    (X71.1, X71.2.1, X71.2.2)
  else
    ((LL 2), X1.1, X1.2)
abbrev q_X7_goes (D : va_G) (k : KK) (le : Nat) (lr : Nat → Nat) (LL : Nat → Int64) (lh : Nat → Int64) (lb : Nat → Int64) (sd_ : Int32) (ef : Int32) (wt : Int32) (te : Int32) (wa : Nat) (wd : WAd) (WI : Nat → Int32) (pr : Nat → Int32) (SI : Nat → Nat → Int32) (OI : Nat → Nat → Int32) (tn : Nat → Nat → Int32) (nS : Nat) (nO : Nat) (A : Nat → Prop) : Array Value → State → Outcome → State → Prop := va_Qv (fun (u : Int64 × (Nat → Int64) × (Nat → Int64)) => u = f_X7_goes LL lh lb sd_ ef wt te WI SI nS) (bx D (fun u => [(le, eLE lr (vp_updL LL 2 u.1)), ((lr 0), aL k 5 u.2.1), ((lr 1), aL k 5 u.2.2)]) A) A
abbrev rm_X7_goes : Room := { frames := 2, cells := 0, slots := 0, locals := 80 }
theorem xo_X7_goes : xok yX7_goes 5 := by unfold xok; decide +kernel
set_option maxHeartbeats 8000000 in
theorem m_X7_goes (l : Launch) (D : va_G) (k : KK) (sz : Nat) (le : Nat) (lr : Nat → Nat) (LL : Nat → Int64) (lh : Nat → Int64) (lb : Nat → Int64) (sd_ : Int32) (ef : Int32) (wt : Int32) (te : Int32) (wa : Nat) (wd : WAd) (WI : Nat → Int32) (pr : Nat → Int32) (SI : Nat → Nat → Int32) (OI : Nat → Nat → Int32) (tn : Nat → Nat → Int32) (nS : Nat) (nO : Nat) (hnS : WI 3 = nI nS) (hnO : WI 4 = nI nO) (hS2 : 2 ≤ nS) (hS5 : nS ≤ 5) (hO4 : nO ≤ 4) : Met l yX7_goes (ws_ yX7_goes cX7_goes 11 none) rm_X7_goes (pcx D k [.ref le, .ref wa, .int sd_, .int ef, .int wt, .int te] sz [(le, eLE lr LL), ((lr 0), aL k 5 lh), ((lr 1), aL k 5 lb)] (wkY D k wa wd WI pr SI OI tn nS nO (va_A [(le, eLE lr LL), ((lr 0), aL k 5 lh), ((lr 1), aL k 5 lb)] sz))) (q_X7_goes D k le lr LL lh lb sd_ ef wt te wa wd WI pr SI OI tn nS nO (va_A [(le, eLE lr LL), ((lr 0), aL k 5 lh), ((lr 1), aL k 5 lb)] sz)) 0 0 (va_A [(le, eLE lr LL), ((lr 0), aL k 5 lh), ((lr 1), aL k 5 lb)] sz) := by
  refine Met.start (Qc := q_X7_goes D k le lr LL lh lb sd_ ef wt te wa wd WI pr SI OI tn nS nO) (by decide) (Nat.le_of_ble_eq_true rfl) ?_
  intro p e s m below meth c A hx hb hr hlocks hml hown hin hts hg hP hD hA hAn hS hY hsz ls hl
  have hown : s.vm.findClass RX7 = some m.cls := hown
  have hl : lv_has ls 11 [(0, .ref le), (1, .ref wa), (2, .int sd_), (3, .int ef), (4, .int wt), (5, .int te)] := hl
  have hW := wkY.mono hY hAn
  refine lv_iconst (v := 0) hx hb dX7_goes_0 ci_0 ?_
  refine lv_istore (lv' := [(6, .int 0), (0, .ref le), (1, .ref wa), (2, .int sd_), (3, .int ef), (4, .int wt), (5, .int te)]) hx hb dX7_goes_1 hl (Nat.le_of_ble_eq_true rfl) rfl (fun ls hl => ?_)
  have loop1 : ∀ (n1 i1 : Nat) (X1 : (Nat → Int64) × (Nat → Int64)) (H : Heap) (locs : List Loc) (ls : Array Slot), i1 + n1 = nS → X1 = itN (f_X7_goes_l3) i1 (lh, lb) → va_P D vwCl [(le, eLE lr LL), ((lr 0), aL k 5 X1.1), ((lr 1), aL k 5 X1.2)] H → va_D A [(le, eLE lr LL), ((lr 0), aL k 5 X1.1), ((lr 1), aL k 5 X1.2)] → va_S A s.heap H locs → lv_has ls 11 [(6, .int (nI i1)), (0, .ref le), (1, .ref wa), (2, .int sd_), (3, .int ef), (4, .int wt), (5, .int te)] → W p l e rm_X7_goes s m ([.ref le, .ref wa, .int sd_, .int ef, .int wt, .int te] : List Value).toArray below meth c H locs 0 0 (MQ below (q_X7_goes D k le lr LL lh lb sd_ ef wt te wa wd WI pr SI OI tn nS nO A) ([.ref le, .ref wa, .int sd_, .int ef, .int wt, .int te] : List Value).toArray s 0 0 A) (F0 m 3 ls []) := by
    intro n1
    induction n1 with
    | zero =>
      intro i1 X1 H locs ls hn1 eX1 hP hD hS hl
      have hi1 : i1 = nS := by omega
      rw [hi1] at eX1
      refine lv_iload hx hb dX7_goes_3 (lv_at hl 0 rfl) ?_
      refine lv_aload_n hx hb dX7_goes_5 rfl (lv_at hl 2 rfl) ?_
      refine va_get (D := D) (ci := 7) (v := .int (WI 3)) (C := RX9) (T := TX9) (N := 13) hx hb hts in_X9 hown hg.1 (wkat hW hS).1 0 rfl rfl 3 (Nat.le_of_ble_eq_true rfl) (hts _ q501) (fun _ h9 => h9) rfl dX7_goes_6 ?_
      refine lv_icmp_ge (tgt := 43) hx hb dX7_goes_9 (by decide) (fun _ => ?_) (fun c => absurd (xle_t hnS rfl (by omega) (by omega)) c)
      refine lv_iload_n hx hb dX7_goes_43 rfl (lv_at hl 3 rfl) ?_
      refine lv_if_eq (tgt := 48) hx hb dX7_goes_44 (by decide) (fun c11 => ?_) (fun c11 => ?_)
      · refine lv_aload_n hx hb dX7_goes_48 rfl (lv_at hl 2 rfl) ?_
        refine va_get (D := D) (ci := 7) (v := .int (WI 3)) (C := RX9) (T := TX9) (N := 13) hx hb hts in_X9 hown hg.1 (wkat hW hS).1 0 rfl rfl 3 (Nat.le_of_ble_eq_true rfl) (hts _ q501) (fun _ h9 => h9) rfl dX7_goes_49 ?_
        refine lv_iconst (v := 2) hx hb dX7_goes_52 ci_2 ?_
        refine lv_isub hx hb dX7_goes_53 ?_
        refine lv_topi (fun x12 ex12 => ?_)
        refine lv_istore (lv' := [(6, .int x12), (0, .ref le), (1, .ref wa), (2, .int sd_), (3, .int ef), (4, .int wt), (5, .int te)]) hx hb dX7_goes_54 hl (Nat.le_of_ble_eq_true rfl) rfl (fun ls hl => ?_)
        have loop13 : ∀ (n13 i13 : Nat) (X13 : (Nat → Int64)) (H : Heap) (locs : List Loc) (ls : Array Slot), i13 + n13 = nS - 1 → itD (f_X7_goes_l56 ef WI SI) n13 X13 = itD (f_X7_goes_l56 ef WI SI) (nS - 1) X1.1 → va_P D vwCl [(le, eLE lr LL), ((lr 0), aL k 5 X13), ((lr 1), aL k 5 X1.2)] H → va_D A [(le, eLE lr LL), ((lr 0), aL k 5 X13), ((lr 1), aL k 5 X1.2)] → va_S A s.heap H locs → lv_has ls 11 [(6, .int (nI n13 - 1)), (0, .ref le), (1, .ref wa), (2, .int sd_), (3, .int ef), (4, .int wt), (5, .int te)] → W p l e rm_X7_goes s m ([.ref le, .ref wa, .int sd_, .int ef, .int wt, .int te] : List Value).toArray below meth c H locs 0 0 (MQ below (q_X7_goes D k le lr LL lh lb sd_ ef wt te wa wd WI pr SI OI tn nS nO A) ([.ref le, .ref wa, .int sd_, .int ef, .int wt, .int te] : List Value).toArray s 0 0 A) (F0 m 56 ls []) := by
          intro n13
          induction n13 with
          | zero =>
            intro i13 X13 H locs ls hn13 eX13 hP hD hS hl
            have hi13 : i13 = nS - 1 := by omega
            replace eX13 : X13 = itD (f_X7_goes_l56 ef WI SI) (nS - 1) X1.1 := eX13
            refine lv_iload hx hb dX7_goes_56 (lv_at hl 0 rfl) ?_
            refine lv_if_lt (tgt := 182) hx hb dX7_goes_58 (by decide) (fun _ => ?_) (fun c => absurd (by decide) c)
            refine lv_iconst (v := 0) hx hb dX7_goes_182 ci_0 ?_
            refine lv_istore (lv' := [(6, .int 0), (0, .ref le), (1, .ref wa), (2, .int sd_), (3, .int ef), (4, .int wt), (5, .int te)]) hx hb dX7_goes_183 hl (Nat.le_of_ble_eq_true rfl) rfl (fun ls hl => ?_)
            have loop71 : ∀ (n71 i71 : Nat) (X71 : (Int64) × (Nat → Int64) × (Nat → Int64)) (H : Heap) (locs : List Loc) (ls : Array Slot), i71 + n71 = nS → X71 = itN (f_X7_goes_l185 wt te WI) i71 ((LL 2), X13, X1.2) → va_P D vwCl [(le, eLE lr (vp_updL LL 2 X71.1)), ((lr 0), aL k 5 X71.2.1), ((lr 1), aL k 5 X71.2.2)] H → va_D A [(le, eLE lr (vp_updL LL 2 X71.1)), ((lr 0), aL k 5 X71.2.1), ((lr 1), aL k 5 X71.2.2)] → va_S A s.heap H locs → lv_has ls 11 [(6, .int (nI i71)), (0, .ref le), (1, .ref wa), (2, .int sd_), (3, .int ef), (4, .int wt), (5, .int te)] → W p l e rm_X7_goes s m ([.ref le, .ref wa, .int sd_, .int ef, .int wt, .int te] : List Value).toArray below meth c H locs 0 0 (MQ below (q_X7_goes D k le lr LL lh lb sd_ ef wt te wa wd WI pr SI OI tn nS nO A) ([.ref le, .ref wa, .int sd_, .int ef, .int wt, .int te] : List Value).toArray s 0 0 A) (F0 m 185 ls []) := by
              intro n71
              induction n71 with
              | zero =>
                intro i71 X71 H locs ls hn71 eX71 hP hD hS hl
                have hi71 : i71 = nS := by omega
                rw [hi71] at eX71
                refine lv_iload hx hb dX7_goes_185 (lv_at hl 0 rfl) ?_
                refine lv_aload_n hx hb dX7_goes_187 rfl (lv_at hl 2 rfl) ?_
                refine va_get (D := D) (ci := 7) (v := .int (WI 3)) (C := RX9) (T := TX9) (N := 13) hx hb hts in_X9 hown hg.1 (wkat hW hS).1 0 rfl rfl 3 (Nat.le_of_ble_eq_true rfl) (hts _ q501) (fun _ h9 => h9) rfl dX7_goes_188 ?_
                refine lv_icmp_ge (tgt := 294) hx hb dX7_goes_191 (by decide) (fun _ => ?_) (fun c => absurd (xle_t hnS rfl (by omega) (by omega)) c)
                exact xret_v hx hb hr hlocks (Nat.le_of_ble_eq_true rfl) (Nat.le_of_ble_eq_true rfl) hS.2.2 dX7_goes_294 (fun t ht => ⟨⟨(X71.1, X71.2.1, X71.2.2), rfl, (by subst eX71; subst eX13; subst ex12; subst eX1; exact Eq.symm (Eq.trans (if_pos c11) (rfl))), by rw [ht]; exact hP, hD⟩, hS.F ht⟩)
              | succ n71 ih71 =>
                intro i71 X71 H locs ls hn71 eX71 hP hD hS hl
                have hi71 : i71 < nS := by omega
                refine lv_iload hx hb dX7_goes_185 (lv_at hl 0 rfl) ?_
                refine lv_aload_n hx hb dX7_goes_187 rfl (lv_at hl 2 rfl) ?_
                refine va_get (D := D) (ci := 7) (v := .int (WI 3)) (C := RX9) (T := TX9) (N := 13) hx hb hts in_X9 hown hg.1 (wkat hW hS).1 0 rfl rfl 3 (Nat.le_of_ble_eq_true rfl) (hts _ q501) (fun _ h9 => h9) rfl dX7_goes_188 ?_
                refine lv_icmp_ge (tgt := 294) hx hb dX7_goes_191 (by decide) (fun c => absurd c (xle_f hnS rfl (by omega) (by omega))) (fun _ => ?_)
                refine lv_aload_n hx hb dX7_goes_194 rfl (lv_at hl 1 rfl) ?_
                refine va_get (D := D) (ci := 6) (v := .ref (lr 0)) (C := RX7) (T := TX7) (N := 3) hx hb hts in_X7 hown hg.1 hP 0 rfl rfl 0 (Nat.le_of_ble_eq_true rfl) (hts _ q352) (fun _ h9 => h9) rfl dX7_goes_195 ?_
                refine lv_iload hx hb dX7_goes_198 (lv_at hl 0 rfl) ?_
                refine xa_lald hx hb hg hP 1 rfl rfl (by first | omega | exact Nat.lt_of_lt_of_le (Nat.mod_lt _ (by omega)) (by omega)) (by omega) dX7_goes_200 ?_
                refine lv_bipush (v := 20) hx hb dX7_goes_201 cb_20 ?_
                refine lv_bipush (v := 10) hx hb dX7_goes_203 cb_10 ?_
                refine lv_iload hx hb dX7_goes_205 (lv_at hl 5 rfl) ?_
                refine lv_imul hx hb dX7_goes_207 ?_
                refine lv_iadd hx hb dX7_goes_208 ?_
                refine lv_i2l hx hb dX7_goes_209 rfl ?_
                refine lv_lmul hx hb dX7_goes_210 ?_
                refine lv_ldc2 hx hb hown (hts _ q919) dX7_goes_211 ?_
                refine lv_ldiv hx hb dX7_goes_214 (by decide) ?_
                refine lv_topl (fun x102 ex102 => ?_)
                refine lv_lstore (lv' := [(7, .long x102), (6, .int (nI i71)), (0, .ref le), (1, .ref wa), (2, .int sd_), (3, .int ef), (4, .int wt), (5, .int te)]) hx hb dX7_goes_215 hl (Nat.le_of_ble_eq_true rfl) rfl (fun ls hl => ?_)
                refine lv_iload hx hb dX7_goes_217 (lv_at hl 1 rfl) ?_
                refine lv_aload_n hx hb dX7_goes_219 rfl (lv_at hl 3 rfl) ?_
                refine va_get (D := D) (ci := 7) (v := .int (WI 8)) (C := RX9) (T := TX9) (N := 13) hx hb hts in_X9 hown hg.1 (wkat hW hS).1 0 rfl rfl 8 (Nat.le_of_ble_eq_true rfl) (hts _ q520) (fun _ h9 => h9) rfl dX7_goes_220 ?_
                have Jn10 : ∀ (v105 : (Int64)) (H : Heap) (locs : List Loc) (ls : Array Slot), v105 = f_X7_goes_j10 te WI i71 x102 → va_P D vwCl [(le, eLE lr (vp_updL LL 2 X71.1)), ((lr 0), aL k 5 X71.2.1), ((lr 1), aL k 5 X71.2.2)] H → va_D A [(le, eLE lr (vp_updL LL 2 X71.1)), ((lr 0), aL k 5 X71.2.1), ((lr 1), aL k 5 X71.2.2)] → va_S A s.heap H locs → lv_has ls 11 [(7, .long x102), (6, .int (nI i71)), (0, .ref le), (1, .ref wa), (2, .int sd_), (3, .int ef), (4, .int wt), (5, .int te)] → W p l e rm_X7_goes s m ([.ref le, .ref wa, .int sd_, .int ef, .int wt, .int te] : List Value).toArray below meth c H locs 0 0 (MQ below (q_X7_goes D k le lr LL lh lb sd_ ef wt te wa wd WI pr SI OI tn nS nO A) ([.ref le, .ref wa, .int sd_, .int ef, .int wt, .int te] : List Value).toArray s 0 0 A) (F0 m 251 ls [.long v105]) := by
                  intro v105 H locs ls ev105 hP hD hS hl
                  refine lv_lstore (lv' := [(9, .long v105), (7, .long x102), (6, .int (nI i71)), (0, .ref le), (1, .ref wa), (2, .int sd_), (3, .int ef), (4, .int wt), (5, .int te)]) hx hb dX7_goes_251 hl (Nat.le_of_ble_eq_true rfl) rfl (fun ls hl => ?_)
                  refine lv_aload_n hx hb dX7_goes_253 rfl (lv_at hl 3 rfl) ?_
                  refine va_get (D := D) (ci := 6) (v := .ref (lr 0)) (C := RX7) (T := TX7) (N := 3) hx hb hts in_X7 hown hg.1 hP 0 rfl rfl 0 (Nat.le_of_ble_eq_true rfl) (hts _ q352) (fun _ h9 => h9) rfl dX7_goes_254 ?_
                  refine lv_iload hx hb dX7_goes_257 (lv_at hl 2 rfl) ?_
                  refine lv_dup2_11 hx hb dX7_goes_259 rfl rfl ?_
                  refine xa_lald hx hb hg hP 1 rfl rfl (by first | omega | exact Nat.lt_of_lt_of_le (Nat.mod_lt _ (by omega)) (by omega)) (by omega) dX7_goes_260 ?_
                  refine lv_lload hx hb dX7_goes_261 (lv_at hl 1 rfl) ?_
                  refine lv_lsub hx hb dX7_goes_263 ?_
                  refine lv_topl (fun x106 ex106 => ?_)
                  refine xa_last hx hb hg hP hD hS 1 rfl rfl (by omega) (by omega) dX7_goes_264 (fun f107 H locs ef107 hP hD hS => ?_)
                  replace hP : va_P D vwCl [(le, eLE lr (vp_updL LL 2 X71.1)), ((lr 0), aL k 5 f107), ((lr 1), aL k 5 X71.2.2)] H := hP
                  replace hD : va_D A [(le, eLE lr (vp_updL LL 2 X71.1)), ((lr 0), aL k 5 f107), ((lr 1), aL k 5 X71.2.2)] := hD
                  refine lv_aload_n hx hb dX7_goes_265 rfl (lv_at hl 3 rfl) ?_
                  refine va_get (D := D) (ci := 6) (v := .ref (lr 1)) (C := RX7) (T := TX7) (N := 3) hx hb hts in_X7 hown hg.1 hP 0 rfl rfl 1 (Nat.le_of_ble_eq_true rfl) (hts _ q353) (fun _ h9 => h9) rfl dX7_goes_266 ?_
                  refine lv_iload hx hb dX7_goes_269 (lv_at hl 2 rfl) ?_
                  refine lv_lload hx hb dX7_goes_271 (lv_at hl 1 rfl) ?_
                  refine lv_lload hx hb dX7_goes_273 (lv_at hl 0 rfl) ?_
                  refine lv_lsub hx hb dX7_goes_275 ?_
                  refine lv_topl (fun x108 ex108 => ?_)
                  refine xa_last hx hb hg hP hD hS 2 rfl rfl (by omega) (by omega) dX7_goes_276 (fun f109 H locs ef109 hP hD hS => ?_)
                  replace hP : va_P D vwCl [(le, eLE lr (vp_updL LL 2 X71.1)), ((lr 0), aL k 5 f107), ((lr 1), aL k 5 f109)] H := hP
                  replace hD : va_D A [(le, eLE lr (vp_updL LL 2 X71.1)), ((lr 0), aL k 5 f107), ((lr 1), aL k 5 f109)] := hD
                  refine lv_aload_n hx hb dX7_goes_277 rfl (lv_at hl 3 rfl) ?_
                  refine lv_dup hx hb dX7_goes_278 rfl ?_
                  refine va_get (D := D) (ci := 6) (v := .long X71.1) (C := RX7) (T := TX7) (N := 3) hx hb hts in_X7 hown hg.1 hP 0 rfl rfl 2 (Nat.le_of_ble_eq_true rfl) (hts _ q354) (fun _ h9 => h9) rfl dX7_goes_279 ?_
                  refine lv_lload hx hb dX7_goes_282 (lv_at hl 0 rfl) ?_
                  refine lv_ladd hx hb dX7_goes_284 ?_
                  refine lv_topl (fun x110 ex110 => ?_)
                  refine va_put (D := D) (ci := 6) (v := .long x110) (C := RX7) (T := TX7) (N := 3) hx hb hts in_X7 tyX7 tyX7_ok nmX7 hown hg.1 hP hD hS 0 rfl rfl 2 (Nat.le_of_ble_eq_true rfl) (hts _ q354) (fun _ h9 => h9) rfl ftX7_2 rfl rfl (Nat.le_of_ble_eq_true rfl) dX7_goes_285 (fun H locs hP hD hS => ?_)
                  replace hP : va_P D vwCl [(le, eLE lr (vp_updL LL 2 x110)), ((lr 0), aL k 5 f107), ((lr 1), aL k 5 f109)] H := hP
                  replace hD : va_D A [(le, eLE lr (vp_updL LL 2 x110)), ((lr 0), aL k 5 f107), ((lr 1), aL k 5 f109)] := hD
                  refine lv_iinc (v := (nI (i71 + 1))) (lv' := [(6, .int (nI (i71 + 1))), (9, .long v105), (7, .long x102), (0, .ref le), (1, .ref wa), (2, .int sd_), (3, .int ef), (4, .int wt), (5, .int te)]) hx hb dX7_goes_288 hl (k := 2) rfl (xinc1 _) (Nat.le_of_ble_eq_true rfl) rfl (fun ls hl => ?_)
                  refine lv_goto (tgt := 185) hx hb dX7_goes_291 (by decide) ?_
                  exact ih71 (i71 + 1) (x110, f107, f109) _ _ _ (by omega) (Eq.trans (by subst ex110; subst ef109; subst ex108; subst ef107; subst ex106; subst ev105; subst ex102; exact rfl) (congrArg (f_X7_goes_l185 wt te WI i71) eX71)) hP hD hS (lv_sub hl [0, 3, 4, 5, 6, 7, 8] rfl)
                refine lv_icmp_ge (tgt := 249) hx hb dX7_goes_223 (by decide) (fun c111 => ?_) (fun c111 => ?_)
                · refine lv_lload hx hb dX7_goes_249 (lv_at hl 0 rfl) ?_
                  exact Jn10 x102 _ _ _ (by exact Eq.symm (Eq.trans (if_pos c111) (rfl))) hP hD hS (lv_sub hl [0, 1, 2, 3, 4, 5, 6, 7] rfl)
                · refine lv_lload hx hb dX7_goes_226 (lv_at hl 0 rfl) ?_
                  refine lv_bipush (v := 100) hx hb dX7_goes_228 cb_100 ?_
                  refine lv_iload hx hb dX7_goes_230 (lv_at hl 7 rfl) ?_
                  refine lv_aload_n hx hb dX7_goes_232 rfl (lv_at hl 3 rfl) ?_
                  refine va_get (D := D) (ci := 7) (v := .int (WI 9)) (C := RX9) (T := TX9) (N := 13) hx hb hts in_X9 hown hg.1 (wkat hW hS).1 0 rfl rfl 9 (Nat.le_of_ble_eq_true rfl) (hts _ q524) (fun _ h9 => h9) rfl dX7_goes_233 ?_
                  refine lv_imul hx hb dX7_goes_236 ?_
                  refine va_mmin hx hb (by rw [hml]; exact hl.1.symm) hown (hts _ q920) (hts _ q921) (hts _ q104) (hts _ q922) (Nat.le_of_ble_eq_true rfl) (Nat.le_of_ble_eq_true rfl) (Nat.le_of_ble_eq_true rfl) (Nat.le_of_ble_eq_true rfl) dX7_goes_237 ?_
                  refine lv_i2l hx hb dX7_goes_240 rfl ?_
                  refine lv_lmul hx hb dX7_goes_241 ?_
                  refine lv_ldc2 hx hb hown (hts _ q919) dX7_goes_242 ?_
                  refine lv_ldiv hx hb dX7_goes_245 (by decide) ?_
                  refine lv_goto (tgt := 251) hx hb dX7_goes_246 (by decide) ?_
                  exact Jn10 ((x102 * ((if (te * (WI 9)) < 100 then (te * (WI 9)) else 100).toInt64)) / 100) _ _ _ (by exact Eq.symm (Eq.trans (if_neg c111) (rfl))) hP hD hS (lv_sub hl [0, 1, 2, 3, 4, 5, 6, 7] rfl)
            exact loop71 nS 0 ((LL 2), X13, X1.2) _ _ _ (by omega) rfl hP hD hS (by have h := (lv_sub hl [0, 1, 2, 3, 4, 5, 6] rfl); exact h)
          | succ n13 ih13 =>
            intro i13 X13 H locs ls hn13 eX13 hP hD hS hl
            have hi13 : n13 < nS - 1 := by omega
            rw [nI_pred] at hl
            refine lv_iload hx hb dX7_goes_56 (lv_at hl 0 rfl) ?_
            refine lv_if_lt (tgt := 182) hx hb dX7_goes_58 (by decide) (fun c => absurd c (nI_pos (by omega))) (fun _ => ?_)
            refine lv_aload_n hx hb dX7_goes_61 rfl (lv_at hl 1 rfl) ?_
            refine va_get (D := D) (ci := 6) (v := .ref (lr 0)) (C := RX7) (T := TX7) (N := 3) hx hb hts in_X7 hown hg.1 hP 0 rfl rfl 0 (Nat.le_of_ble_eq_true rfl) (hts _ q352) (fun _ h9 => h9) rfl dX7_goes_62 ?_
            refine lv_iload hx hb dX7_goes_65 (lv_at hl 0 rfl) ?_
            refine xa_lald hx hb hg hP 1 rfl rfl (by first | omega | exact Nat.lt_of_lt_of_le (Nat.mod_lt _ (by omega)) (by omega)) (by omega) dX7_goes_67 ?_
            refine lv_aload_n hx hb dX7_goes_68 rfl (lv_at hl 2 rfl) ?_
            refine va_get (D := D) (ci := 7) (v := .ref (wd.1 0)) (C := RX9) (T := TX9) (N := 13) hx hb hts in_X9 hown hg.1 (wkat hW hS).1 0 rfl rfl 0 (Nat.le_of_ble_eq_true rfl) (hts _ q491) (fun _ h9 => h9) rfl dX7_goes_69 ?_
            refine lv_iload hx hb dX7_goes_72 (lv_at hl 0 rfl) ?_
            refine xa_aald hx hb hg (wkat hW hS).1 1 6 rfl rfl rfl (by omega) (by omega) (b := (wd.2.2.2.1 n13)) ((wkat hW hS).2.1 n13 (by omega)).1 dX7_goes_74 ?_
            refine va_get (D := D) (ci := 8) (v := .int ((SI n13) 1)) (C := RX11) (T := TX11) (N := 3) hx hb hts in_X11 hown hg.1 ((wkat hW hS).2.1 n13 (by omega)).2 0 rfl rfl 1 (Nat.le_of_ble_eq_true rfl) (hts _ q810) (fun _ h9 => h9) rfl dX7_goes_75 ?_
            refine lv_i2l hx hb dX7_goes_78 rfl ?_
            refine lv_lmul hx hb dX7_goes_79 ?_
            refine lv_iload_n hx hb dX7_goes_80 rfl (lv_at hl 4 rfl) ?_
            refine lv_i2l hx hb dX7_goes_81 rfl ?_
            refine lv_lmul hx hb dX7_goes_82 ?_
            refine lv_ldc2 hx hb hown (hts _ q918) dX7_goes_83 ?_
            refine lv_ldiv hx hb dX7_goes_86 (by decide) ?_
            refine lv_topl (fun x112 ex112 => ?_)
            refine lv_lstore (lv' := [(7, .long x112), (6, .int (nI n13)), (0, .ref le), (1, .ref wa), (2, .int sd_), (3, .int ef), (4, .int wt), (5, .int te)]) hx hb dX7_goes_87 hl (Nat.le_of_ble_eq_true rfl) rfl (fun ls hl => ?_)
            refine lv_iload hx hb dX7_goes_89 (lv_at hl 1 rfl) ?_
            refine lv_iconst (v := 2) hx hb dX7_goes_91 ci_2 ?_
            refine lv_iadd hx hb dX7_goes_92 ?_
            refine lv_aload_n hx hb dX7_goes_93 rfl (lv_at hl 3 rfl) ?_
            refine va_get (D := D) (ci := 7) (v := .int (WI 3)) (C := RX9) (T := TX9) (N := 13) hx hb hts in_X9 hown hg.1 (wkat hW hS).1 0 rfl rfl 3 (Nat.le_of_ble_eq_true rfl) (hts _ q501) (fun _ h9 => h9) rfl dX7_goes_94 ?_
            have Jn11 : ∀ (v115 : (Int64)) (H : Heap) (locs : List Loc) (ls : Array Slot), v115 = f_X7_goes_j11 WI SI n13 x112 → va_P D vwCl [(le, eLE lr LL), ((lr 0), aL k 5 X13), ((lr 1), aL k 5 X1.2)] H → va_D A [(le, eLE lr LL), ((lr 0), aL k 5 X13), ((lr 1), aL k 5 X1.2)] → va_S A s.heap H locs → lv_has ls 11 [(7, .long x112), (6, .int (nI n13)), (0, .ref le), (1, .ref wa), (2, .int sd_), (3, .int ef), (4, .int wt), (5, .int te)] → W p l e rm_X7_goes s m ([.ref le, .ref wa, .int sd_, .int ef, .int wt, .int te] : List Value).toArray below meth c H locs 0 0 (MQ below (q_X7_goes D k le lr LL lh lb sd_ ef wt te wa wd WI pr SI OI tn nS nO A) ([.ref le, .ref wa, .int sd_, .int ef, .int wt, .int te] : List Value).toArray s 0 0 A) (F0 m 123 ls [.long v115]) := by
              intro v115 H locs ls ev115 hP hD hS hl
              refine lv_lstore (lv' := [(9, .long v115), (7, .long x112), (6, .int (nI n13)), (0, .ref le), (1, .ref wa), (2, .int sd_), (3, .int ef), (4, .int wt), (5, .int te)]) hx hb dX7_goes_123 hl (Nat.le_of_ble_eq_true rfl) rfl (fun ls hl => ?_)
              refine lv_aload_n hx hb dX7_goes_125 rfl (lv_at hl 3 rfl) ?_
              refine va_get (D := D) (ci := 6) (v := .ref (lr 0)) (C := RX7) (T := TX7) (N := 3) hx hb hts in_X7 hown hg.1 hP 0 rfl rfl 0 (Nat.le_of_ble_eq_true rfl) (hts _ q352) (fun _ h9 => h9) rfl dX7_goes_126 ?_
              refine lv_iload hx hb dX7_goes_129 (lv_at hl 2 rfl) ?_
              refine lv_dup2_11 hx hb dX7_goes_131 rfl rfl ?_
              refine xa_lald hx hb hg hP 1 rfl rfl (by first | omega | exact Nat.lt_of_lt_of_le (Nat.mod_lt _ (by omega)) (by omega)) (by omega) dX7_goes_132 ?_
              refine lv_lload hx hb dX7_goes_133 (lv_at hl 1 rfl) ?_
              refine lv_lsub hx hb dX7_goes_135 ?_
              refine lv_topl (fun x116 ex116 => ?_)
              refine xa_last hx hb hg hP hD hS 1 rfl rfl (by omega) (by omega) dX7_goes_136 (fun f117 H locs ef117 hP hD hS => ?_)
              replace hP : va_P D vwCl [(le, eLE lr LL), ((lr 0), aL k 5 f117), ((lr 1), aL k 5 X1.2)] H := hP
              replace hD : va_D A [(le, eLE lr LL), ((lr 0), aL k 5 f117), ((lr 1), aL k 5 X1.2)] := hD
              refine lv_aload_n hx hb dX7_goes_137 rfl (lv_at hl 3 rfl) ?_
              refine va_get (D := D) (ci := 6) (v := .ref (lr 0)) (C := RX7) (T := TX7) (N := 3) hx hb hts in_X7 hown hg.1 hP 0 rfl rfl 0 (Nat.le_of_ble_eq_true rfl) (hts _ q352) (fun _ h9 => h9) rfl dX7_goes_138 ?_
              refine lv_iload hx hb dX7_goes_141 (lv_at hl 2 rfl) ?_
              refine lv_iconst (v := 1) hx hb dX7_goes_143 ci_1 ?_
              refine lv_iadd hx hb dX7_goes_144 ?_
              refine lv_dup2_11 hx hb dX7_goes_145 rfl rfl ?_
              refine xa_lald hx hb hg hP 1 rfl (xnadd rfl xl_1) (by first | omega | exact Nat.lt_of_lt_of_le (Nat.mod_lt _ (by omega)) (by omega)) (by omega) dX7_goes_146 ?_
              refine lv_lload hx hb dX7_goes_147 (lv_at hl 0 rfl) ?_
              refine lv_ladd hx hb dX7_goes_149 ?_
              refine lv_topl (fun x118 ex118 => ?_)
              refine xa_last hx hb hg hP hD hS 1 rfl (xnadd rfl xl_1) (by omega) (by omega) dX7_goes_150 (fun f119 H locs ef119 hP hD hS => ?_)
              replace hP : va_P D vwCl [(le, eLE lr LL), ((lr 0), aL k 5 f119), ((lr 1), aL k 5 X1.2)] H := hP
              replace hD : va_D A [(le, eLE lr LL), ((lr 0), aL k 5 f119), ((lr 1), aL k 5 X1.2)] := hD
              refine lv_lload hx hb dX7_goes_151 (lv_at hl 1 rfl) ?_
              refine lv_lload hx hb dX7_goes_153 (lv_at hl 0 rfl) ?_
              refine W.lcmp hx hb dX7_goes_155 ?_
              have Jn12 : ∀ (v126 : (Nat → Int64)) (H : Heap) (locs : List Loc) (ls : Array Slot), v126 = f_X7_goes_j12 n13 x112 v115 f119 → va_P D vwCl [(le, eLE lr LL), ((lr 0), aL k 5 v126), ((lr 1), aL k 5 X1.2)] H → va_D A [(le, eLE lr LL), ((lr 0), aL k 5 v126), ((lr 1), aL k 5 X1.2)] → va_S A s.heap H locs → lv_has ls 11 [(9, .long v115), (7, .long x112), (6, .int (nI n13)), (0, .ref le), (1, .ref wa), (2, .int sd_), (3, .int ef), (4, .int wt), (5, .int te)] → W p l e rm_X7_goes s m ([.ref le, .ref wa, .int sd_, .int ef, .int wt, .int te] : List Value).toArray below meth c H locs 0 0 (MQ below (q_X7_goes D k le lr LL lh lb sd_ ef wt te wa wd WI pr SI OI tn nS nO A) ([.ref le, .ref wa, .int sd_, .int ef, .int wt, .int te] : List Value).toArray s 0 0 A) (F0 m 176 ls []) := by
                intro v126 H locs ls ev126 hP hD hS hl
                refine lv_iinc (v := (nI n13 - 1)) (lv' := [(6, .int (nI n13 - 1)), (9, .long v115), (7, .long x112), (0, .ref le), (1, .ref wa), (2, .int sd_), (3, .int ef), (4, .int wt), (5, .int te)]) hx hb dX7_goes_176 hl (k := 2) rfl (xdec1 _) (Nat.le_of_ble_eq_true rfl) rfl (fun ls hl => ?_)
                refine lv_goto (tgt := 56) hx hb dX7_goes_179 (by decide) ?_
                exact ih13 (i13 + 1) v126 _ _ _ (by omega) (Eq.trans (congrArg (itD (f_X7_goes_l56 ef WI SI) n13) (by subst ev126; subst ef119; subst ex118; subst ef117; subst ex116; subst ev115; subst ex112; exact rfl)) eX13) hP hD hS (lv_sub hl [0, 3, 4, 5, 6, 7, 8] rfl)
              refine lv_if_le (tgt := 176) hx hb dX7_goes_156 (by decide) (fun c127 => ?_) (fun c127 => ?_)
              · exact Jn12 f119 _ _ _ (by exact Eq.symm (Eq.trans (if_pos c127) (rfl))) hP hD hS (lv_sub hl [0, 1, 2, 3, 4, 5, 6, 7, 8] rfl)
              · have hb2 : n13 + 2 < nS := by
                  apply Decidable.byContradiction
                  intro h
                  rw [ev115, f_X7_goes_j11, if_pos (xle_t hnS (xnadd rfl xl_2) (by omega) (by omega))] at c127
                  exact c127 (by rw [xlc_self]; decide)
                refine lv_aload_n hx hb dX7_goes_159 rfl (lv_at hl 3 rfl) ?_
                refine va_get (D := D) (ci := 6) (v := .ref (lr 0)) (C := RX7) (T := TX7) (N := 3) hx hb hts in_X7 hown hg.1 hP 0 rfl rfl 0 (Nat.le_of_ble_eq_true rfl) (hts _ q352) (fun _ h9 => h9) rfl dX7_goes_160 ?_
                refine lv_iload hx hb dX7_goes_163 (lv_at hl 2 rfl) ?_
                refine lv_iconst (v := 2) hx hb dX7_goes_165 ci_2 ?_
                refine lv_iadd hx hb dX7_goes_166 ?_
                refine lv_dup2_11 hx hb dX7_goes_167 rfl rfl ?_
                refine xa_lald hx hb hg hP 1 rfl (xnadd rfl xl_2) (by first | omega | exact Nat.lt_of_lt_of_le (Nat.mod_lt _ (by omega)) (by omega)) (by omega) dX7_goes_168 ?_
                refine lv_lload hx hb dX7_goes_169 (lv_at hl 1 rfl) ?_
                refine lv_lload hx hb dX7_goes_171 (lv_at hl 0 rfl) ?_
                refine lv_lsub hx hb dX7_goes_173 ?_
                refine lv_ladd hx hb dX7_goes_174 ?_
                refine lv_topl (fun x128 ex128 => ?_)
                refine xa_last hx hb hg hP hD hS 1 rfl (xnadd rfl xl_2) (by omega) (by omega) dX7_goes_175 (fun f129 H locs ef129 hP hD hS => ?_)
                replace hP : va_P D vwCl [(le, eLE lr LL), ((lr 0), aL k 5 f129), ((lr 1), aL k 5 X1.2)] H := hP
                replace hD : va_D A [(le, eLE lr LL), ((lr 0), aL k 5 f129), ((lr 1), aL k 5 X1.2)] := hD
                exact Jn12 f129 _ _ _ (by subst ef129; subst ex128; exact Eq.symm (Eq.trans (if_neg c127) (rfl))) hP hD hS (lv_sub hl [0, 1, 2, 3, 4, 5, 6, 7, 8] rfl)
            refine lv_icmp_ge (tgt := 121) hx hb dX7_goes_97 (by decide) (fun c130 => ?_) (fun c130 => ?_)
            · refine lv_lload hx hb dX7_goes_121 (lv_at hl 0 rfl) ?_
              exact Jn11 x112 _ _ _ (by exact Eq.symm (Eq.trans (if_pos c130) (rfl))) hP hD hS (lv_sub hl [0, 1, 2, 3, 4, 5, 6, 7] rfl)
            · refine lv_lload hx hb dX7_goes_100 (lv_at hl 0 rfl) ?_
              refine lv_aload_n hx hb dX7_goes_102 rfl (lv_at hl 3 rfl) ?_
              refine va_get (D := D) (ci := 7) (v := .ref (wd.1 0)) (C := RX9) (T := TX9) (N := 13) hx hb hts in_X9 hown hg.1 (wkat hW hS).1 0 rfl rfl 0 (Nat.le_of_ble_eq_true rfl) (hts _ q491) (fun _ h9 => h9) rfl dX7_goes_103 ?_
              refine lv_iload hx hb dX7_goes_106 (lv_at hl 1 rfl) ?_
              refine xa_aald hx hb hg (wkat hW hS).1 1 6 rfl rfl rfl (by omega) (by omega) (b := (wd.2.2.2.1 n13)) ((wkat hW hS).2.1 n13 (by omega)).1 dX7_goes_108 ?_
              refine va_get (D := D) (ci := 8) (v := .int ((SI n13) 2)) (C := RX11) (T := TX11) (N := 3) hx hb hts in_X11 hown hg.1 ((wkat hW hS).2.1 n13 (by omega)).2 0 rfl rfl 2 (Nat.le_of_ble_eq_true rfl) (hts _ q813) (fun _ h9 => h9) rfl dX7_goes_109 ?_
              refine lv_i2l hx hb dX7_goes_112 rfl ?_
              refine lv_lmul hx hb dX7_goes_113 ?_
              refine lv_ldc2 hx hb hown (hts _ q919) dX7_goes_114 ?_
              refine lv_ldiv hx hb dX7_goes_117 (by decide) ?_
              refine lv_goto (tgt := 123) hx hb dX7_goes_118 (by decide) ?_
              exact Jn11 ((x112 * (((SI n13) 2).toInt64)) / 100) _ _ _ (by exact Eq.symm (Eq.trans (if_neg c130) (rfl))) hP hD hS (lv_sub hl [0, 1, 2, 3, 4, 5, 6, 7] rfl)
        exact loop13 (nS - 1) 0 X1.1 _ _ _ (by omega) rfl hP hD hS (by rw [show nI (nS - 1) - 1 = x12 from (by rw [ex12]; exact xdn2 hnS hS2)]; exact (lv_sub hl [0, 1, 2, 3, 4, 5, 6] rfl))
      · exact xret_v hx hb hr hlocks (Nat.le_of_ble_eq_true rfl) (Nat.le_of_ble_eq_true rfl) hS.2.2 dX7_goes_47 (fun t ht => ⟨⟨((LL 2), X1.1, X1.2), rfl, (by subst eX1; exact Eq.symm (Eq.trans (if_neg c11) (rfl))), by rw [ht]; exact hP, hD⟩, hS.F ht⟩)
    | succ n1 ih1 =>
      intro i1 X1 H locs ls hn1 eX1 hP hD hS hl
      have hi1 : i1 < nS := by omega
      refine lv_iload hx hb dX7_goes_3 (lv_at hl 0 rfl) ?_
      refine lv_aload_n hx hb dX7_goes_5 rfl (lv_at hl 2 rfl) ?_
      refine va_get (D := D) (ci := 7) (v := .int (WI 3)) (C := RX9) (T := TX9) (N := 13) hx hb hts in_X9 hown hg.1 (wkat hW hS).1 0 rfl rfl 3 (Nat.le_of_ble_eq_true rfl) (hts _ q501) (fun _ h9 => h9) rfl dX7_goes_6 ?_
      refine lv_icmp_ge (tgt := 43) hx hb dX7_goes_9 (by decide) (fun c => absurd c (xle_f hnS rfl (by omega) (by omega))) (fun _ => ?_)
      refine lv_aload_n hx hb dX7_goes_12 rfl (lv_at hl 1 rfl) ?_
      refine va_get (D := D) (ci := 6) (v := .ref (lr 0)) (C := RX7) (T := TX7) (N := 3) hx hb hts in_X7 hown hg.1 hP 0 rfl rfl 0 (Nat.le_of_ble_eq_true rfl) (hts _ q352) (fun _ h9 => h9) rfl dX7_goes_13 ?_
      refine lv_iload hx hb dX7_goes_16 (lv_at hl 0 rfl) ?_
      refine lv_dup2_11 hx hb dX7_goes_18 rfl rfl ?_
      refine xa_lald hx hb hg hP 1 rfl rfl (by first | omega | exact Nat.lt_of_lt_of_le (Nat.mod_lt _ (by omega)) (by omega)) (by omega) dX7_goes_19 ?_
      refine lv_aload_n hx hb dX7_goes_20 rfl (lv_at hl 1 rfl) ?_
      refine va_get (D := D) (ci := 6) (v := .ref (lr 1)) (C := RX7) (T := TX7) (N := 3) hx hb hts in_X7 hown hg.1 hP 0 rfl rfl 1 (Nat.le_of_ble_eq_true rfl) (hts _ q353) (fun _ h9 => h9) rfl dX7_goes_21 ?_
      refine lv_iload hx hb dX7_goes_24 (lv_at hl 0 rfl) ?_
      refine xa_lald hx hb hg hP 2 rfl rfl (by first | omega | exact Nat.lt_of_lt_of_le (Nat.mod_lt _ (by omega)) (by omega)) (by omega) dX7_goes_26 ?_
      refine lv_ladd hx hb dX7_goes_27 ?_
      refine lv_topl (fun x131 ex131 => ?_)
      refine xa_last hx hb hg hP hD hS 1 rfl rfl (by omega) (by omega) dX7_goes_28 (fun f132 H locs ef132 hP hD hS => ?_)
      replace hP : va_P D vwCl [(le, eLE lr LL), ((lr 0), aL k 5 f132), ((lr 1), aL k 5 X1.2)] H := hP
      replace hD : va_D A [(le, eLE lr LL), ((lr 0), aL k 5 f132), ((lr 1), aL k 5 X1.2)] := hD
      refine lv_aload_n hx hb dX7_goes_29 rfl (lv_at hl 1 rfl) ?_
      refine va_get (D := D) (ci := 6) (v := .ref (lr 1)) (C := RX7) (T := TX7) (N := 3) hx hb hts in_X7 hown hg.1 hP 0 rfl rfl 1 (Nat.le_of_ble_eq_true rfl) (hts _ q353) (fun _ h9 => h9) rfl dX7_goes_30 ?_
      refine lv_iload hx hb dX7_goes_33 (lv_at hl 0 rfl) ?_
      refine lv_lconst (v := 0) hx hb dX7_goes_35 cl_0 ?_
      refine xa_last hx hb hg hP hD hS 2 rfl rfl (by omega) (by omega) dX7_goes_36 (fun f133 H locs ef133 hP hD hS => ?_)
      replace hP : va_P D vwCl [(le, eLE lr LL), ((lr 0), aL k 5 f132), ((lr 1), aL k 5 f133)] H := hP
      replace hD : va_D A [(le, eLE lr LL), ((lr 0), aL k 5 f132), ((lr 1), aL k 5 f133)] := hD
      refine lv_iinc (v := (nI (i1 + 1))) (lv' := [(6, .int (nI (i1 + 1))), (0, .ref le), (1, .ref wa), (2, .int sd_), (3, .int ef), (4, .int wt), (5, .int te)]) hx hb dX7_goes_37 hl (k := 0) rfl (xinc1 _) (Nat.le_of_ble_eq_true rfl) rfl (fun ls hl => ?_)
      refine lv_goto (tgt := 3) hx hb dX7_goes_40 (by decide) ?_
      exact ih1 (i1 + 1) (f132, f133) _ _ _ (by omega) (Eq.trans (by subst ef133; subst ef132; subst ex131; exact rfl) (congrArg (f_X7_goes_l3 i1) eX1)) hP hD hS (lv_sub hl [0, 1, 2, 3, 4, 5, 6] rfl)
  exact loop1 nS 0 (lh, lb) _ _ _ (by omega) rfl hP hD hS (by have h := (lv_sub hl [0, 1, 2, 3, 4, 5, 6] rfl); exact h)
