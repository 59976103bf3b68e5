/-! METHODS THAT ASK THE LAW: the pool rides behind the cells -/
abbrev zSem : Type := Nat → Option (Nat × (Sc → Int32))
def zPl (k : Nat → ClassId) (e0 : Nat) (aF : Nat → Nat) (P : va_W) (Sm : zSem) : Prop := ∀ (q n : Nat) (f : Sc → Int32), Sm q = some (n, f) → lwAt k e0 aF P 20 q n f
theorem lwAt.mem {k : Nat → ClassId} {asc : Nat → Nat} {sc : Sc} {e0 : Nat} {aF : Nat → Nat} {P : va_W} {d q n : Nat} {f : Sc → Int32} (h : lwAt k e0 aF P d q n f) : ∃ (j : Nat) (fs : List Value), (cS k asc sc ++ P)[j]? = some (q, .inr (7, fs)) := by
  obtain ⟨ql, els, gs, h1, -⟩ := h
  obtain ⟨j, hj⟩ := zin (k := k) (asc := asc) (sc := sc) h1
  exact ⟨j, _, hj⟩
def mqn {β : Type} (x : Option Nat) (a : β) (b : Nat → β) : β := match x with
  | none => a
  | some q => b q
theorem mqn_n {β : Type} {x : Option Nat} {a o : β} {b : Nat → β} (e : x = none) (h : mqn x a b = o) : a = o := by subst e; exact h
theorem mqn_s {β : Type} {x : Option Nat} {q : Nat} {a o : β} {b : Nat → β} (e : x = some q) (h : mqn x a b = o) : b q = o := by subst e; exact h
theorem tOut (x : Int32) (n : Nat) (h : ∀ k : Nat, k ≤ n → ¬ x = nI k) : x.toInt < (0 : Int) ∨ (n : Int) < x.toInt := by
  rcases Int.lt_or_le x.toInt 0 with q | q
  · exact Or.inl q
  · right
    have h0 : ¬ x < 0 := by rw [Int32.lt_iff_toInt_lt]; exact Int.not_lt.mpr q
    obtain ⟨j, hj, rfl⟩ := nI_of h0
    rw [nI_toInt hj]
    rcases Nat.lt_or_ge n j with z | z
    · exact Int.ofNat_lt.mpr z
    · exact absurd rfl (h j z)
theorem zsubT {D : va_G} {cl : List vw_C} {w w' P : va_W} {H : Heap} (h : va_P D cl (w ++ P) H) (is : List Nat) (hs : is.filterMap (fun i => w[i]?) = w') : va_P D cl (w' ++ P) H := by
  have h1 : va_P D cl w H := fun i q hi => by
    obtain ⟨j, hj⟩ := List.getElem?_of_mem (List.mem_append_left P (List.mem_of_getElem? hi))
    exact h j q hj
  have h2 : va_P D cl P H := fun i q hi => by
    obtain ⟨j, hj⟩ := List.getElem?_of_mem (List.mem_append_right w (List.mem_of_getElem? hi))
    exact h j q hj
  exact va_P.app (h1.sub is hs) h2
theorem zsubTD {A : Nat → Prop} {w w' P : va_W} (h : va_D A (w ++ P)) (is : List Nat) (hn : va_nd is = true) (hs : is.map (fun i => w[i]?) = w'.map some) : va_D A (w' ++ P) := by
  rw [zD_nd] at h
  have hw : va_D A w := by
    rw [zD_nd]
    refine ⟨?_, fun q hq => h.2 q (List.mem_append_left _ hq)⟩
    have := h.1
    rw [List.map_append] at this
    exact (List.nodup_append.mp this).1
  have hP : va_D A P := by
    rw [zD_nd]
    refine ⟨?_, fun q hq => h.2 q (List.mem_append_right _ hq)⟩
    have := h.1
    rw [List.map_append] at this
    exact (List.nodup_append.mp this).2.1
  refine va_D.app (hw.sub is hn hs) hP (fun i j p q hi hj e => ?_)
  have h3 := h.1
  rw [List.map_append] at h3
  have hmem : p ∈ w := by
    have h4 : some p ∈ w'.map some := List.mem_map_of_mem (List.mem_of_getElem? hi)
    rw [← hs] at h4
    obtain ⟨i9, -, hi9⟩ := List.mem_map.mp h4
    exact List.mem_of_getElem? hi9
  exact (List.nodup_append.mp h3).2.2 p.1 (List.mem_map_of_mem hmem) q.1 (List.mem_map_of_mem (List.mem_of_getElem? hj)) e
section ZP
variable {p : Program} {l : Launch} {e : Env} {R : Room} {s : State} {m : MethodId} {args : Array Value} {below : List Frame} {meth : Method} {c : Code} {H : Heap} {locs : List Loc} {cells slots : Nat} {Q : State → Prop}
variable {pc : Nat} {ls : Array Slot} {rest st0 : List Value} {D : va_G} {cl : List vw_C} {tys : List (ClassId × FieldType)} {Z : zZ} {A : Nat → Prop} {pre ws : va_W} {P : Option Value → va_W → Prop} {mc ms : Nat} {cc : ByteArray}
variable {y : MethodName} {cy : ByteArray} {mL nL n index : Nat} {ret : Option FieldType} {rm : Room} {own C : String} {b : Addr} {As : List Value} {ci N : Nat} {T0 : u_T} {fs : List Value}
theorem cWVP (pre ws : va_W) (S : CallFix p m c cc nL s args lw_all own) (hOK : zOK D cl tys Z) (hz : Z A s s.heap) (hS : va_S A s.heap H locs) (hA : ∀ q : Nat, s.heap.size ≤ q → A q) (hP : va_P D cl (pre ++ ws) H) (hD : va_D A (pre ++ ws)) (hM : CtW l y cy mL ret rm Z D cl ws (.ref b :: As) P mc ms) (cw : CallW R s args own C index y cy mL ret (ws_ y cy mL ret) rm mc ms n)
    (q0 : Nat) (he : ws[q0]? = some (b, .inr (ci, fs))) (hc : cl[ci]? = some (C, T0, N)) (hn : As.length = n) (hl : ls.size = nL) (hst : st0 = As.reverse ++ .ref b :: rest) (hW : 2 * (F0 m pc ls st0).monitorRoom + (rest.map fun v => v.category).sum ≤ 8) (hf : cells + mc ≤ R.cells ∧ slots + ms ≤ R.slots) (hdg : decode cc pc = .ok (.invokevirtual index, 3))
    (kk : ∀ (r : Option Value) (ws' : va_W) (H1 : Heap) (locs1 : List Loc), P r ws' → va_P D cl (pre ++ ws') H1 → va_D A (pre ++ ws') → va_S A s.heap H1 locs1 → W p l e R s m args below meth c H1 locs1 (cells + mc) (slots + ms) Q (F0 m (pc + 3) ls (r.toList ++ rest))) : W p l e R s m args below meth c H locs cells slots Q (F0 m pc ls st0) :=
  cWV pre ws [] S hOK hz hS hA (by rw [List.append_nil]; exact hP) (by rw [List.append_nil]; exact hD) hM cw q0 he hc hn hl hst hW hf hdg (fun r ws' H1 locs1 h1 h2 h3 h4 => kk r ws' H1 locs1 h1 (by rw [List.append_nil] at h2; exact h2) (by rw [List.append_nil] at h3; exact h3) h4)
end ZP
def rX1_turnsBy : Room := { frames := 28, cells := 0, slots := 0, locals := 1003 }
noncomputable def fX1_turnsBy (Sm : zSem) (sh : Kp) (su : Wd) (ssc : Sc) (p2 : Int32) : Option (Int32 × Sc) :=
  mqn (wd_law su) (
    some ((1 : Int32), ssc)) fun q_1 =>
  mlt (sc_s_guest ssc p2) fun ssc_2 =>
  mck p2 8 <|
  mlt ((wd_room su) (Int32.toNatClampNeg p2)) fun v_4 =>
  mlt (sc_s_room ssc_2 v_4) fun ssc_5 =>
  mck p2 8 <|
  mlt ((wd_wish su) (Int32.toNatClampNeg p2)) fun v_7 =>
  mlt (sc_s_wish ssc_5 v_7) fun ssc_8 =>
  mck p2 8 <|
  mlt ((wd_doubt su) (Int32.toNatClampNeg p2)) fun v_10 =>
  mlt (sc_s_doubted ssc_8 v_10) fun ssc_11 =>
  mlt (sc_s_towers ssc_11 (wd_towers su)) fun ssc_12 =>
  mck p2 8 <|
  mck ((wd_room su) (Int32.toNatClampNeg p2)) 8 <|
  mob (fJ16_bitCount ((wd_holes su) (Int32.toNatClampNeg ((wd_room su) (Int32.toNatClampNeg p2))))) fun r_16 =>
  mlt (sc_s_holes ssc_12 r_16) fun ssc_17 =>
  mlt ((wd_day su) / (7 : Int32)) fun v_18 =>
  mlt (sc_s_week ssc_17 v_18) fun ssc_19 =>
  mck p2 8 <|
  mlt (sc_s_key ssc_19 ((wd_key su) (Int32.toNatClampNeg p2))) fun ssc_21 =>
  mob (fX2_isSaturday su (wd_kept su) ((wd_day su) + (1 : Int32))) fun r_23 =>
  mlt (sc_s_eve ssc_21 r_23) fun ssc_24 =>
  mob (Sm q_1) fun nf_25 =>
  some ((nf_25.2 ssc_24), ssc_24)
theorem kX1_turnsBy {R : Room} {s : State} {args : Array Value} {own : String} {idx mc ms : Nat} {rm : Room} (hts : ∀ w ∈ lw_all, w.before args s = true) (hl : Cond.methodLink own idx yX1_turnsBy ∈ lw_all) (hrc : rm.cells = mc) (hrs : rm.slots = ms) (hR : rm.frames + 1 ≤ R.frames ∧ 8 + (3 + 11) + rm.locals ≤ R.locals) : CallW R s args own RX1 idx yX1_turnsBy cX1_turnsBy 3 (some .int) (ws_ yX1_turnsBy cX1_turnsBy 3 (some .int)) rm mc ms 2 :=
  cwV 2 hts (lw_V hl q454 qs2 q107 q455) rfl hrc hrs (by decide +kernel) hR
set_option maxHeartbeats 4000000 in
set_option maxRecDepth 100000 in
theorem mtX1_turnsBy (l : Launch) (D : va_G) (k : Nat → ClassId) (ah : Nat → Nat) (aw : Nat → Nat) (adr : Nat → Nat) (aim : Nat → Nat) (ard : Nat → Nat) (asc : Nat → Nat) (ath : Nat → Nat) (awl : Nat → Nat) (alo : Nat → Nat) (atr : Nat → Nat) (au : Nat → Nat) (Z : zZ) (hOK : zOK D zCl (zTys k) Z) {e0 : Nat} {aF : Nat → Nat} (hFa : zFa Z aF) (hFw : zFw Z) (P : va_W) (Sm : zSem) (hPl : zPl k e0 aF P Sm) (sh : Kp) (su : Wd) (ssc : Sc) (p2 : Int32) (r : Int32) (osc : Sc) (hrun : fX1_turnsBy Sm sh su ssc p2 = some (r, osc)) :
    CtW l yX1_turnsBy cX1_turnsBy 3 (some .int) rX1_turnsBy Z D zCl (((cH k ah aw adr aim ard asc ath awl alo atr sh) ++ ((cW k au su) ++ (cS k asc ssc))) ++ P) [.ref (ah 0), .ref (au 0), .int p2] (fun r' w' => r' = (some (.int r)) ∧ w' = (((cH k ah aw adr aim ard asc ath awl alo atr sh) ++ ((cW k au su) ++ (cS k asc osc))) ++ P)) 0 0 := by
  refine CtW.of (by decide) (Nat.le_of_ble_eq_true rfl) ?_
  intro p e s m args below meth c A hE hA hP hD hS hz ls hl
  obtain ⟨hx, hb, hr, hml, hown, hts, hlocks, hname⟩ := hE
  have hown : s.vm.findClass RX1 = some m.cls := hown
  have hK := hOK.1 _ _ _ hz
  have hN := hOK.2.1 _ _ _ hz
  have hl : lv_has ls 3 [(0, .ref (ah 0)), (1, .ref (au 0)), (2, .int p2)] := hl
  unfold fX1_turnsBy at hrun
  refine lv_aload_n hx hb dX1_turnsBy_0 rfl (lv_at hl 1 rfl) ?_
  refine va_getN (ci := 2) (v := va_rf (wd_law su)) (C := RX2) (T := TX2) (N := 21) hx hb hts in_X2 hown hK hP 1 rfl rfl 20 (by decide) (va_Nw.use rfl (hN _ (zN_of q208 rfl))) (fun _ h9 => h9) rfl dX1_turnsBy_1 ?_
  cases eq_1 : (wd_law su) with
  | none =>
    have hrun := mqn_n eq_1 hrun
    refine lv_ifnonnullN hx hb dX1_turnsBy_4 ?_
    refine lv_iconst (v := (1 : Int32)) hx hb dX1_turnsBy_7 (by decide) ?_
    cases hrun
    exact retW_i hx hb hr hlocks hP hD hS ⟨rfl, rfl⟩ dX1_turnsBy_8
  | some q_1 =>
    have hrun := mqn_s eq_1 hrun
    refine lv_ifnonnull (tgt := 9) hx hb dX1_turnsBy_4 (by decide) ?_
    refine lv_aload_n hx hb dX1_turnsBy_9 rfl (lv_at hl 0 rfl) ?_
    refine va_get (ci := 1) (v := .ref (asc 0)) (C := RX1) (T := TX1) (N := 10) hx hb hts in_X1 hown hK hP 0 rfl rfl 5 (by decide) (hts _ q376) (fun _ h9 => h9) rfl dX1_turnsBy_10 ?_
    refine lv_iload_n hx hb dX1_turnsBy_13 rfl (lv_at hl 2 rfl) ?_
    refine va_putN (ci := 4) (v := .int p2) (ty := tyX4 0) (C := RX4) (T := TX4) (N := 9) hx hb hts in_X4 tyX4 tyX4_ok nmX4 hown hK hP hD hS 10 rfl rfl 0 (by decide) (va_Nw.use rfl (hN _ (zN_of q294 rfl))) (fun _ h9 => h9) rfl (tyX4_ok 0 (by decide)) rfl rfl (Nat.le_of_ble_eq_true rfl) dX1_turnsBy_14 (fun H locs hP hD hS => ?_)
    have hP : va_P D zCl (((cH k ah aw adr aim ard asc ath awl alo atr sh) ++ ((cW k au su) ++ (cS k asc (sc_s_guest ssc p2)))) ++ P) _ := hP
    have hD : va_D A (((cH k ah aw adr aim ard asc ath awl alo atr sh) ++ ((cW k au su) ++ (cS k asc (sc_s_guest ssc p2)))) ++ P) := hD
    obtain ⟨ssc_2, essc_2⟩ : ∃ z : Sc, z = (sc_s_guest ssc p2) := ⟨_, rfl⟩
    rw [← essc_2] at hP hD
    have hrun := mlt_s hrun ssc_2 essc_2
    refine lv_aload_n hx hb dX1_turnsBy_17 rfl (lv_at hl 0 rfl) ?_
    refine va_get (ci := 1) (v := .ref (asc 0)) (C := RX1) (T := TX1) (N := 10) hx hb hts in_X1 hown hK hP 0 rfl rfl 5 (by decide) (hts _ q376) (fun _ h9 => h9) rfl dX1_turnsBy_18 ?_
    refine lv_aload_n hx hb dX1_turnsBy_21 rfl (lv_at hl 1 rfl) ?_
    refine va_getN (ci := 2) (v := .ref (au 2)) (C := RX2) (T := TX2) (N := 21) hx hb hts in_X2 hown hK hP 1 rfl rfl 13 (by decide) (va_Nw.use rfl (hN _ (zN_of q192 rfl))) (fun _ h9 => h9) rfl dX1_turnsBy_22 ?_
    refine lv_iload_n hx hb dX1_turnsBy_25 rfl (lv_at hl 2 rfl) ?_
    obtain ⟨hb_3, hrun⟩ := mck_s rfl hrun
    refine va_iald hx hb hK hP 3 0 rfl rfl hb_3 dX1_turnsBy_26 ?_
    refine lv_topi (fun v_4 ev_4 => ?_)
    have hrun := mlt_s hrun v_4 ev_4
    refine va_putN (ci := 4) (v := .int v_4) (ty := tyX4 1) (C := RX4) (T := TX4) (N := 9) hx hb hts in_X4 tyX4 tyX4_ok nmX4 hown hK hP hD hS 10 rfl rfl 1 (by decide) (va_Nw.use rfl (hN _ (zN_of q296 rfl))) (fun _ h9 => h9) rfl (tyX4_ok 1 (by decide)) rfl rfl (Nat.le_of_ble_eq_true rfl) dX1_turnsBy_27 (fun H locs hP hD hS => ?_)
    have hP : va_P D zCl (((cH k ah aw adr aim ard asc ath awl alo atr sh) ++ ((cW k au su) ++ (cS k asc (sc_s_room ssc_2 v_4)))) ++ P) _ := hP
    have hD : va_D A (((cH k ah aw adr aim ard asc ath awl alo atr sh) ++ ((cW k au su) ++ (cS k asc (sc_s_room ssc_2 v_4)))) ++ P) := hD
    obtain ⟨ssc_5, essc_5⟩ : ∃ z : Sc, z = (sc_s_room ssc_2 v_4) := ⟨_, rfl⟩
    rw [← essc_5] at hP hD
    have hrun := mlt_s hrun ssc_5 essc_5
    refine lv_aload_n hx hb dX1_turnsBy_30 rfl (lv_at hl 0 rfl) ?_
    refine va_get (ci := 1) (v := .ref (asc 0)) (C := RX1) (T := TX1) (N := 10) hx hb hts in_X1 hown hK hP 0 rfl rfl 5 (by decide) (hts _ q376) (fun _ h9 => h9) rfl dX1_turnsBy_31 ?_
    refine lv_aload_n hx hb dX1_turnsBy_34 rfl (lv_at hl 1 rfl) ?_
    refine va_getN (ci := 2) (v := .ref (au 3)) (C := RX2) (T := TX2) (N := 21) hx hb hts in_X2 hown hK hP 1 rfl rfl 14 (by decide) (va_Nw.use rfl (hN _ (zN_of q194 rfl))) (fun _ h9 => h9) rfl dX1_turnsBy_35 ?_
    refine lv_iload_n hx hb dX1_turnsBy_38 rfl (lv_at hl 2 rfl) ?_
    obtain ⟨hb_6, hrun⟩ := mck_s rfl hrun
    refine va_iald hx hb hK hP 4 0 rfl rfl hb_6 dX1_turnsBy_39 ?_
    refine lv_topi (fun v_7 ev_7 => ?_)
    have hrun := mlt_s hrun v_7 ev_7
    refine va_putN (ci := 4) (v := .int v_7) (ty := tyX4 2) (C := RX4) (T := TX4) (N := 9) hx hb hts in_X4 tyX4 tyX4_ok nmX4 hown hK hP hD hS 10 rfl rfl 2 (by decide) (va_Nw.use rfl (hN _ (zN_of q298 rfl))) (fun _ h9 => h9) rfl (tyX4_ok 2 (by decide)) rfl rfl (Nat.le_of_ble_eq_true rfl) dX1_turnsBy_40 (fun H locs hP hD hS => ?_)
    have hP : va_P D zCl (((cH k ah aw adr aim ard asc ath awl alo atr sh) ++ ((cW k au su) ++ (cS k asc (sc_s_wish ssc_5 v_7)))) ++ P) _ := hP
    have hD : va_D A (((cH k ah aw adr aim ard asc ath awl alo atr sh) ++ ((cW k au su) ++ (cS k asc (sc_s_wish ssc_5 v_7)))) ++ P) := hD
    obtain ⟨ssc_8, essc_8⟩ : ∃ z : Sc, z = (sc_s_wish ssc_5 v_7) := ⟨_, rfl⟩
    rw [← essc_8] at hP hD
    have hrun := mlt_s hrun ssc_8 essc_8
    refine lv_aload_n hx hb dX1_turnsBy_43 rfl (lv_at hl 0 rfl) ?_
    refine va_get (ci := 1) (v := .ref (asc 0)) (C := RX1) (T := TX1) (N := 10) hx hb hts in_X1 hown hK hP 0 rfl rfl 5 (by decide) (hts _ q376) (fun _ h9 => h9) rfl dX1_turnsBy_44 ?_
    refine lv_aload_n hx hb dX1_turnsBy_47 rfl (lv_at hl 1 rfl) ?_
    refine va_getN (ci := 2) (v := .ref (au 4)) (C := RX2) (T := TX2) (N := 21) hx hb hts in_X2 hown hK hP 1 rfl rfl 15 (by decide) (va_Nw.use rfl (hN _ (zN_of q196 rfl))) (fun _ h9 => h9) rfl dX1_turnsBy_48 ?_
    refine lv_iload_n hx hb dX1_turnsBy_51 rfl (lv_at hl 2 rfl) ?_
    obtain ⟨hb_9, hrun⟩ := mck_s rfl hrun
    refine va_iald hx hb hK hP 5 0 rfl rfl hb_9 dX1_turnsBy_52 ?_
    refine lv_topi (fun v_10 ev_10 => ?_)
    have hrun := mlt_s hrun v_10 ev_10
    refine va_putN (ci := 4) (v := .int v_10) (ty := tyX4 3) (C := RX4) (T := TX4) (N := 9) hx hb hts in_X4 tyX4 tyX4_ok nmX4 hown hK hP hD hS 10 rfl rfl 3 (by decide) (va_Nw.use rfl (hN _ (zN_of q300 rfl))) (fun _ h9 => h9) rfl (tyX4_ok 3 (by decide)) rfl rfl (Nat.le_of_ble_eq_true rfl) dX1_turnsBy_53 (fun H locs hP hD hS => ?_)
    have hP : va_P D zCl (((cH k ah aw adr aim ard asc ath awl alo atr sh) ++ ((cW k au su) ++ (cS k asc (sc_s_doubted ssc_8 v_10)))) ++ P) _ := hP
    have hD : va_D A (((cH k ah aw adr aim ard asc ath awl alo atr sh) ++ ((cW k au su) ++ (cS k asc (sc_s_doubted ssc_8 v_10)))) ++ P) := hD
    obtain ⟨ssc_11, essc_11⟩ : ∃ z : Sc, z = (sc_s_doubted ssc_8 v_10) := ⟨_, rfl⟩
    rw [← essc_11] at hP hD
    have hrun := mlt_s hrun ssc_11 essc_11
    refine lv_aload_n hx hb dX1_turnsBy_56 rfl (lv_at hl 0 rfl) ?_
    refine va_get (ci := 1) (v := .ref (asc 0)) (C := RX1) (T := TX1) (N := 10) hx hb hts in_X1 hown hK hP 0 rfl rfl 5 (by decide) (hts _ q376) (fun _ h9 => h9) rfl dX1_turnsBy_57 ?_
    refine lv_aload_n hx hb dX1_turnsBy_60 rfl (lv_at hl 1 rfl) ?_
    refine va_getN (ci := 2) (v := .int (wd_towers su)) (C := RX2) (T := TX2) (N := 21) hx hb hts in_X2 hown hK hP 1 rfl rfl 7 (by decide) (va_Nw.use rfl (hN _ (zN_of q179 rfl))) (fun _ h9 => h9) rfl dX1_turnsBy_61 ?_
    refine va_putN (ci := 4) (v := .int (wd_towers su)) (ty := tyX4 4) (C := RX4) (T := TX4) (N := 9) hx hb hts in_X4 tyX4 tyX4_ok nmX4 hown hK hP hD hS 10 rfl rfl 4 (by decide) (va_Nw.use rfl (hN _ (zN_of q302 rfl))) (fun _ h9 => h9) rfl (tyX4_ok 4 (by decide)) rfl rfl (Nat.le_of_ble_eq_true rfl) dX1_turnsBy_64 (fun H locs hP hD hS => ?_)
    have hP : va_P D zCl (((cH k ah aw adr aim ard asc ath awl alo atr sh) ++ ((cW k au su) ++ (cS k asc (sc_s_towers ssc_11 (wd_towers su))))) ++ P) _ := hP
    have hD : va_D A (((cH k ah aw adr aim ard asc ath awl alo atr sh) ++ ((cW k au su) ++ (cS k asc (sc_s_towers ssc_11 (wd_towers su))))) ++ P) := hD
    obtain ⟨ssc_12, essc_12⟩ : ∃ z : Sc, z = (sc_s_towers ssc_11 (wd_towers su)) := ⟨_, rfl⟩
    rw [← essc_12] at hP hD
    have hrun := mlt_s hrun ssc_12 essc_12
    refine lv_aload_n hx hb dX1_turnsBy_67 rfl (lv_at hl 0 rfl) ?_
    refine va_get (ci := 1) (v := .ref (asc 0)) (C := RX1) (T := TX1) (N := 10) hx hb hts in_X1 hown hK hP 0 rfl rfl 5 (by decide) (hts _ q376) (fun _ h9 => h9) rfl dX1_turnsBy_68 ?_
    refine lv_aload_n hx hb dX1_turnsBy_71 rfl (lv_at hl 1 rfl) ?_
    refine va_getN (ci := 2) (v := .ref (au 7)) (C := RX2) (T := TX2) (N := 21) hx hb hts in_X2 hown hK hP 1 rfl rfl 18 (by decide) (va_Nw.use rfl (hN _ (zN_of q204 rfl))) (fun _ h9 => h9) rfl dX1_turnsBy_72 ?_
    refine lv_aload_n hx hb dX1_turnsBy_75 rfl (lv_at hl 1 rfl) ?_
    refine va_getN (ci := 2) (v := .ref (au 2)) (C := RX2) (T := TX2) (N := 21) hx hb hts in_X2 hown hK hP 1 rfl rfl 13 (by decide) (va_Nw.use rfl (hN _ (zN_of q192 rfl))) (fun _ h9 => h9) rfl dX1_turnsBy_76 ?_
    refine lv_iload_n hx hb dX1_turnsBy_79 rfl (lv_at hl 2 rfl) ?_
    obtain ⟨hb_13, hrun⟩ := mck_s rfl hrun
    refine va_iald hx hb hK hP 3 0 rfl rfl hb_13 dX1_turnsBy_80 ?_
    obtain ⟨hb_14, hrun⟩ := mck_s rfl hrun
    refine va_iald hx hb hK hP 8 0 rfl rfl hb_14 dX1_turnsBy_81 ?_
    obtain ⟨r_16, hc_15, hrun⟩ := mob_s rfl hrun
    refine cRS (ws := []) (As := [.int ((wd_holes su) (Int32.toNatClampNeg ((wd_room su) (Int32.toNatClampNeg p2))))]) ⟨hx, hb, hml, hown, hts⟩ hOK hz hS zP0 (mtJ16_bitCount l D Z hOK _ _ hc_15) (kJ16_bitCount hts q456 rfl rfl ⟨Nat.le_of_ble_eq_true rfl, Nat.le_of_ble_eq_true rfl⟩) rfl hl.1 rfl (lv_room (Nat.le_of_ble_eq_true rfl)) ⟨Nat.le_of_ble_eq_true rfl, Nat.le_of_ble_eq_true rfl⟩ dX1_turnsBy_82 ?_
    refine va_putN (ci := 4) (v := .int r_16) (ty := tyX4 5) (C := RX4) (T := TX4) (N := 9) hx hb hts in_X4 tyX4 tyX4_ok nmX4 hown hK hP hD hS 10 rfl rfl 5 (by decide) (va_Nw.use rfl (hN _ (zN_of q304 rfl))) (fun _ h9 => h9) rfl (tyX4_ok 5 (by decide)) rfl rfl (Nat.le_of_ble_eq_true rfl) dX1_turnsBy_85 (fun H locs hP hD hS => ?_)
    have hP : va_P D zCl (((cH k ah aw adr aim ard asc ath awl alo atr sh) ++ ((cW k au su) ++ (cS k asc (sc_s_holes ssc_12 r_16)))) ++ P) _ := hP
    have hD : va_D A (((cH k ah aw adr aim ard asc ath awl alo atr sh) ++ ((cW k au su) ++ (cS k asc (sc_s_holes ssc_12 r_16)))) ++ P) := hD
    obtain ⟨ssc_17, essc_17⟩ : ∃ z : Sc, z = (sc_s_holes ssc_12 r_16) := ⟨_, rfl⟩
    rw [← essc_17] at hP hD
    have hrun := mlt_s hrun ssc_17 essc_17
    refine lv_aload_n hx hb dX1_turnsBy_88 rfl (lv_at hl 0 rfl) ?_
    refine va_get (ci := 1) (v := .ref (asc 0)) (C := RX1) (T := TX1) (N := 10) hx hb hts in_X1 hown hK hP 0 rfl rfl 5 (by decide) (hts _ q376) (fun _ h9 => h9) rfl dX1_turnsBy_89 ?_
    refine lv_aload_n hx hb dX1_turnsBy_92 rfl (lv_at hl 1 rfl) ?_
    refine va_getN (ci := 2) (v := .int (wd_day su)) (C := RX2) (T := TX2) (N := 21) hx hb hts in_X2 hown hK hP 1 rfl rfl 2 (by decide) (va_Nw.use rfl (hN _ (zN_of q168 rfl))) (fun _ h9 => h9) rfl dX1_turnsBy_93 ?_
    refine lv_bipush (v := (7 : Int32)) hx hb dX1_turnsBy_96 (by decide) ?_
    refine lv_idiv hx hb dX1_turnsBy_98 (by decide) ?_
    refine lv_topi (fun v_18 ev_18 => ?_)
    have hrun := mlt_s hrun v_18 ev_18
    refine va_putN (ci := 4) (v := .int v_18) (ty := tyX4 6) (C := RX4) (T := TX4) (N := 9) hx hb hts in_X4 tyX4 tyX4_ok nmX4 hown hK hP hD hS 10 rfl rfl 6 (by decide) (va_Nw.use rfl (hN _ (zN_of q306 rfl))) (fun _ h9 => h9) rfl (tyX4_ok 6 (by decide)) rfl rfl (Nat.le_of_ble_eq_true rfl) dX1_turnsBy_99 (fun H locs hP hD hS => ?_)
    have hP : va_P D zCl (((cH k ah aw adr aim ard asc ath awl alo atr sh) ++ ((cW k au su) ++ (cS k asc (sc_s_week ssc_17 v_18)))) ++ P) _ := hP
    have hD : va_D A (((cH k ah aw adr aim ard asc ath awl alo atr sh) ++ ((cW k au su) ++ (cS k asc (sc_s_week ssc_17 v_18)))) ++ P) := hD
    obtain ⟨ssc_19, essc_19⟩ : ∃ z : Sc, z = (sc_s_week ssc_17 v_18) := ⟨_, rfl⟩
    rw [← essc_19] at hP hD
    have hrun := mlt_s hrun ssc_19 essc_19
    refine lv_aload_n hx hb dX1_turnsBy_102 rfl (lv_at hl 0 rfl) ?_
    refine va_get (ci := 1) (v := .ref (asc 0)) (C := RX1) (T := TX1) (N := 10) hx hb hts in_X1 hown hK hP 0 rfl rfl 5 (by decide) (hts _ q376) (fun _ h9 => h9) rfl dX1_turnsBy_103 ?_
    refine lv_aload_n hx hb dX1_turnsBy_106 rfl (lv_at hl 1 rfl) ?_
    refine va_getN (ci := 2) (v := .ref (au 5)) (C := RX2) (T := TX2) (N := 21) hx hb hts in_X2 hown hK hP 1 rfl rfl 16 (by decide) (va_Nw.use rfl (hN _ (zN_of q199 rfl))) (fun _ h9 => h9) rfl dX1_turnsBy_107 ?_
    refine lv_iload_n hx hb dX1_turnsBy_110 rfl (lv_at hl 2 rfl) ?_
    obtain ⟨hb_20, hrun⟩ := mck_s rfl hrun
    refine va_zald hx hb hK hP 6 1 rfl rfl hb_20 dX1_turnsBy_111 ?_
    refine va_putN (ci := 4) (v := .int (bz ((wd_key su) (Int32.toNatClampNeg p2)))) (ty := tyX4 7) (C := RX4) (T := TX4) (N := 9) hx hb hts in_X4 tyX4 tyX4_ok nmX4 hown hK hP hD hS 10 rfl rfl 7 (by decide) (va_Nw.use rfl (hN _ (zN_of q308 rfl))) (fun _ h9 => h9) rfl (tyX4_ok 7 (by decide)) (bz_nar _) (bz_fit _) (Nat.le_of_ble_eq_true rfl) dX1_turnsBy_112 (fun H locs hP hD hS => ?_)
    have hP : va_P D zCl (((cH k ah aw adr aim ard asc ath awl alo atr sh) ++ ((cW k au su) ++ (cS k asc (sc_s_key ssc_19 ((wd_key su) (Int32.toNatClampNeg p2)))))) ++ P) _ := hP
    have hD : va_D A (((cH k ah aw adr aim ard asc ath awl alo atr sh) ++ ((cW k au su) ++ (cS k asc (sc_s_key ssc_19 ((wd_key su) (Int32.toNatClampNeg p2)))))) ++ P) := hD
    obtain ⟨ssc_21, essc_21⟩ : ∃ z : Sc, z = (sc_s_key ssc_19 ((wd_key su) (Int32.toNatClampNeg p2))) := ⟨_, rfl⟩
    rw [← essc_21] at hP hD
    have hrun := mlt_s hrun ssc_21 essc_21
    refine lv_aload_n hx hb dX1_turnsBy_115 rfl (lv_at hl 0 rfl) ?_
    refine va_get (ci := 1) (v := .ref (asc 0)) (C := RX1) (T := TX1) (N := 10) hx hb hts in_X1 hown hK hP 0 rfl rfl 5 (by decide) (hts _ q376) (fun _ h9 => h9) rfl dX1_turnsBy_116 ?_
    refine lv_aload_n hx hb dX1_turnsBy_119 rfl (lv_at hl 1 rfl) ?_
    refine lv_aload_n hx hb dX1_turnsBy_120 rfl (lv_at hl 1 rfl) ?_
    refine va_getN (ci := 2) (v := .int (wd_kept su)) (C := RX2) (T := TX2) (N := 21) hx hb hts in_X2 hown hK hP 1 rfl rfl 4 (by decide) (va_Nw.use rfl (hN _ (zN_of q173 rfl))) (fun _ h9 => h9) rfl dX1_turnsBy_121 ?_
    refine lv_aload_n hx hb dX1_turnsBy_124 rfl (lv_at hl 1 rfl) ?_
    refine va_getN (ci := 2) (v := .int (wd_day su)) (C := RX2) (T := TX2) (N := 21) hx hb hts in_X2 hown hK hP 1 rfl rfl 2 (by decide) (va_Nw.use rfl (hN _ (zN_of q168 rfl))) (fun _ h9 => h9) rfl dX1_turnsBy_125 ?_
    refine lv_iconst (v := (1 : Int32)) hx hb dX1_turnsBy_128 (by decide) ?_
    refine lv_iadd hx hb dX1_turnsBy_129 ?_
    obtain ⟨r_23, hc_22, hrun⟩ := mob_s rfl hrun
    refine cRV (As := [.int (wd_kept su), .int ((wd_day su) + (1 : Int32))]) (ci := 2) ⟨hx, hb, hml, hown, hts⟩ hOK hz hS (hP.sub (ws' := (cW k au su)) [1, 2, 3, 4, 5, 6, 7, 8, 9] rfl) (mtX2_isSaturday l D k au Z hOK _ _ _ _ hc_22) (kX2_isSaturday hts q426 rfl rfl ⟨Nat.le_of_ble_eq_true rfl, Nat.le_of_ble_eq_true rfl⟩) 0 rfl rfl rfl hl.1 rfl (lv_room (Nat.le_of_ble_eq_true rfl)) ⟨Nat.le_of_ble_eq_true rfl, Nat.le_of_ble_eq_true rfl⟩ dX1_turnsBy_130 ?_
    refine va_putN (ci := 4) (v := .int (bz r_23)) (ty := tyX4 8) (C := RX4) (T := TX4) (N := 9) hx hb hts in_X4 tyX4 tyX4_ok nmX4 hown hK hP hD hS 10 rfl rfl 8 (by decide) (va_Nw.use rfl (hN _ (zN_of q310 rfl))) (fun _ h9 => h9) rfl (tyX4_ok 8 (by decide)) (bz_nar _) (bz_fit _) (Nat.le_of_ble_eq_true rfl) dX1_turnsBy_133 (fun H locs hP hD hS => ?_)
    have hP : va_P D zCl (((cH k ah aw adr aim ard asc ath awl alo atr sh) ++ ((cW k au su) ++ (cS k asc (sc_s_eve ssc_21 r_23)))) ++ P) _ := hP
    have hD : va_D A (((cH k ah aw adr aim ard asc ath awl alo atr sh) ++ ((cW k au su) ++ (cS k asc (sc_s_eve ssc_21 r_23)))) ++ P) := hD
    obtain ⟨ssc_24, essc_24⟩ : ∃ z : Sc, z = (sc_s_eve ssc_21 r_23) := ⟨_, rfl⟩
    rw [← essc_24] at hP hD
    have hrun := mlt_s hrun ssc_24 essc_24
    refine lv_aload_n hx hb dX1_turnsBy_136 rfl (lv_at hl 1 rfl) ?_
    refine va_getN (ci := 2) (v := va_rf (wd_law su)) (C := RX2) (T := TX2) (N := 21) hx hb hts in_X2 hown hK hP 1 rfl rfl 20 (by decide) (va_Nw.use rfl (hN _ (zN_of q208 rfl))) (fun _ h9 => h9) rfl dX1_turnsBy_137 ?_
    refine W.eq (g2 := F0 m 140 ls [.ref q_1]) (by rw [eq_1]; rfl) ?_
    refine lv_aload_n hx hb dX1_turnsBy_140 rfl (lv_at hl 0 rfl) ?_
    refine va_get (ci := 1) (v := .ref (asc 0)) (C := RX1) (T := TX1) (N := 10) hx hb hts in_X1 hown hK hP 0 rfl rfl 5 (by decide) (hts _ q376) (fun _ h9 => h9) rfl dX1_turnsBy_141 ?_
    obtain ⟨nf_25, hc_26, hrun⟩ := mob_s rfl hrun
    have hlw := hPl q_1 nf_25.1 nf_25.2 hc_26
    obtain ⟨jq, fq, hjq⟩ := hlw.mem (asc := asc) (sc := ssc_24)
    refine cRV (As := [.ref (asc 0)]) (ci := 7) ⟨hx, hb, hml, hown, hts⟩ hOK hz hS (zsubT (w' := cS k asc ssc_24) hP [10] rfl) (mtX8_turns l D k Z hOK asc P ssc_24 _ aF hFa hFw 20 q_1 nf_25.1 nf_25.2 hlw) (kX8_turns hts q462 rfl rfl ⟨Nat.le_of_ble_eq_true rfl, Nat.le_of_ble_eq_true rfl⟩) jq hjq rfl rfl hl.1 rfl (lv_room (Nat.le_of_ble_eq_true rfl)) ⟨Nat.le_of_ble_eq_true rfl, Nat.le_of_ble_eq_true rfl⟩ dX1_turnsBy_144 ?_
    cases hrun
    exact retW_i hx hb hr hlocks hP hD hS ⟨rfl, rfl⟩ dX1_turnsBy_147
def rX1_allTurn : Room := { frames := 29, cells := 0, slots := 0, locals := 1025 }
noncomputable def fX1_allTurn_L2 (Sm : zSem) (sh : Kp) : Nat → Int32 → Wd → Sc → Option (Wd × Sc)
  | 0, _, _, _ => none
  | n + 1, x2_2, su_3, ssc_4 =>
    if (wd_guests su_3) ≤ x2_2 then
      some (su_3, ssc_4)
    else
      mck x2_2 8 <|
      if ((wd_here su_3) (Int32.toNatClampNeg x2_2)) = true then
        mck x2_2 8 <|
        mo2 (fX1_turnsBy Sm sh su_3 ssc_4 x2_2) fun r_11 ssc_10 =>
        mob (fX2_doubts su_3 x2_2 (((wd_doubt su_3) (Int32.toNatClampNeg x2_2)) + r_11)) fun su_13 =>
        fX1_allTurn_L2 Sm sh n (x2_2 + (1 : Int32)) su_13 ssc_10
      else
        fX1_allTurn_L2 Sm sh n (x2_2 + (1 : Int32)) su_3 ssc_4
noncomputable def fX1_allTurn (Sm : zSem) (sh : Kp) (su : Wd) (ssc : Sc) : Option (Wd × Sc) :=
  fX1_allTurn_L2 Sm sh mFU (0 : Int32) su ssc
theorem kX1_allTurn {R : Room} {s : State} {args : Array Value} {own : String} {idx mc ms : Nat} {rm : Room} (hts : ∀ w ∈ lw_all, w.before args s = true) (hl : Cond.methodLink own idx yX1_allTurn ∈ lw_all) (hrc : rm.cells = mc) (hrs : rm.slots = ms) (hR : rm.frames + 1 ≤ R.frames ∧ 8 + (3 + 11) + rm.locals ≤ R.locals) : CallW R s args own RX1 idx yX1_allTurn cX1_allTurn 3 none (ws_ yX1_allTurn cX1_allTurn 3 none) rm mc ms 1 :=
  cwV 1 hts (lw_V hl q450 qs1 q107 q451) rfl hrc hrs (by decide +kernel) hR
set_option maxHeartbeats 4000000 in
set_option maxRecDepth 100000 in
theorem mtX1_allTurn (l : Launch) (D : va_G) (k : Nat → ClassId) (ah : Nat → Nat) (aw : Nat → Nat) (adr : Nat → Nat) (aim : Nat → Nat) (ard : Nat → Nat) (asc : Nat → Nat) (ath : Nat → Nat) (awl : Nat → Nat) (alo : Nat → Nat) (atr : Nat → Nat) (au : Nat → Nat) (Z : zZ) (hOK : zOK D zCl (zTys k) Z) {e0 : Nat} {aF : Nat → Nat} (hFa : zFa Z aF) (hFw : zFw Z) (P : va_W) (Sm : zSem) (hPl : zPl k e0 aF P Sm) (sh : Kp) (su : Wd) (ssc : Sc) (ou : Wd) (osc : Sc) (hrun : fX1_allTurn Sm sh su ssc = some (ou, osc)) :
    CtW l yX1_allTurn cX1_allTurn 3 none rX1_allTurn Z D zCl (((cH k ah aw adr aim ard asc ath awl alo atr sh) ++ ((cW k au su) ++ (cS k asc ssc))) ++ P) [.ref (ah 0), .ref (au 0)] (fun r' w' => r' = none ∧ w' = (((cH k ah aw adr aim ard asc ath awl alo atr sh) ++ ((cW k au ou) ++ (cS k asc osc))) ++ P)) 0 0 := by
  refine CtW.of (by decide) (Nat.le_of_ble_eq_true rfl) ?_
  intro p e s m args below meth c A hE hA hP hD hS hz ls hl
  obtain ⟨hx, hb, hr, hml, hown, hts, hlocks, hname⟩ := hE
  have hown : s.vm.findClass RX1 = some m.cls := hown
  have hK := hOK.1 _ _ _ hz
  have hN := hOK.2.1 _ _ _ hz
  have hl : lv_has ls 3 [(0, .ref (ah 0)), (1, .ref (au 0))] := hl
  unfold fX1_allTurn at hrun
  refine lv_iconst (v := (0 : Int32)) hx hb dX1_allTurn_0 (by decide) ?_
  refine lv_istore_n (lv' := [(2, .int (0 : Int32)), (0, .ref (ah 0)), (1, .ref (au 0))]) hx hb dX1_allTurn_1 rfl hl (by decide) rfl (fun ls hl => ?_)
  have hL_1 : ∀ n : Nat, ∀ (x2_2 : Int32) (su_3 : Wd) (ssc_4 : Sc), ∀ (H : Heap) (locs : List Loc), va_P D zCl (((cH k ah aw adr aim ard asc ath awl alo atr sh) ++ ((cW k au su_3) ++ (cS k asc ssc_4))) ++ P) H → va_D A (((cH k ah aw adr aim ard asc ath awl alo atr sh) ++ ((cW k au su_3) ++ (cS k asc ssc_4))) ++ P) → va_S A s.heap H locs → ∀ ls : Array Slot, lv_has ls 3 [(0, .ref (ah 0)), (1, .ref (au 0)), (2, .int x2_2)] → fX1_allTurn_L2 Sm sh n x2_2 su_3 ssc_4 = some (ou, osc) → W p l e rX1_allTurn s m args below meth c H locs 0 0 (MQ below (QWr (fun r' w' => r' = none ∧ w' = (((cH k ah aw adr aim ard asc ath awl alo atr sh) ++ ((cW k au ou) ++ (cS k asc osc))) ++ P)) D zCl A) args s 0 0 A) (F0 m 2 ls []) := by
    intro n
    induction n with
    | zero =>
      intro x2_2 su_3 ssc_4 H locs hP hD hS ls hl hrun
      exact nomatch hrun
    | succ n ih =>
      intro x2_2 su_3 ssc_4 H locs hP hD hS ls hl hrun
      rw [fX1_allTurn_L2.eq_2] at hrun
      refine lv_iload_n hx hb dX1_allTurn_2 rfl (lv_at hl 2 rfl) ?_
      refine lv_aload_n hx hb dX1_allTurn_3 rfl (lv_at hl 1 rfl) ?_
      refine va_getN (ci := 2) (v := .int (wd_guests su_3)) (C := RX2) (T := TX2) (N := 21) hx hb hts in_X2 hown hK hP 1 rfl rfl 1 (by decide) (va_Nw.use rfl (hN _ (zN_of q166 rfl))) (fun _ h9 => h9) rfl dX1_allTurn_4 ?_
      refine lv_icmp_ge (tgt := 43) hx hb dX1_allTurn_7 (by decide) (fun c_5 => ?_) (fun c_5 => ?_)
      · have hrun := mif_p c_5 hrun
        cases hrun
        exact retW_v hx hb hr hlocks hP hD hS ⟨rfl, rfl⟩ dX1_allTurn_43
      have hrun := mif_n c_5 hrun
      refine lv_aload_n hx hb dX1_allTurn_10 rfl (lv_at hl 1 rfl) ?_
      refine va_getN (ci := 2) (v := .ref (au 6)) (C := RX2) (T := TX2) (N := 21) hx hb hts in_X2 hown hK hP 1 rfl rfl 17 (by decide) (va_Nw.use rfl (hN _ (zN_of q202 rfl))) (fun _ h9 => h9) rfl dX1_allTurn_11 ?_
      refine lv_iload_n hx hb dX1_allTurn_14 rfl (lv_at hl 2 rfl) ?_
      obtain ⟨hb_6, hrun⟩ := mck_s rfl hrun
      refine va_zald hx hb hK hP 7 1 rfl rfl hb_6 dX1_allTurn_15 ?_
      refine lv_if_eq (tgt := 37) hx hb dX1_allTurn_16 (by decide) (fun c_7 => ?_) (fun c_7 => ?_)
      · have hrun := mif_n (bz_z c_7) hrun
        refine lv_iinc (v := (x2_2 + (1 : Int32))) (lv' := [(2, .int (x2_2 + (1 : Int32))), (0, .ref (ah 0)), (1, .ref (au 0))]) hx hb dX1_allTurn_37 hl (k := 2) rfl rfl (by decide) rfl (fun ls hl => ?_)
        refine lv_goto (tgt := 2) hx hb dX1_allTurn_40 (by decide) ?_
        exact ih (x2_2 + (1 : Int32)) su_3 ssc_4 _ _ hP hD hS ls (lv_sub hl [1, 2, 0] rfl) hrun
      have hrun := mif_p (bz_nz c_7) hrun
      refine lv_aload_n hx hb dX1_allTurn_19 rfl (lv_at hl 1 rfl) ?_
      refine lv_iload_n hx hb dX1_allTurn_20 rfl (lv_at hl 2 rfl) ?_
      refine lv_aload_n hx hb dX1_allTurn_21 rfl (lv_at hl 1 rfl) ?_
      refine va_getN (ci := 2) (v := .ref (au 4)) (C := RX2) (T := TX2) (N := 21) hx hb hts in_X2 hown hK hP 1 rfl rfl 15 (by decide) (va_Nw.use rfl (hN _ (zN_of q196 rfl))) (fun _ h9 => h9) rfl dX1_allTurn_22 ?_
      refine lv_iload_n hx hb dX1_allTurn_25 rfl (lv_at hl 2 rfl) ?_
      obtain ⟨hb_8, hrun⟩ := mck_s rfl hrun
      refine va_iald hx hb hK hP 5 0 rfl rfl hb_8 dX1_allTurn_26 ?_
      refine lv_aload_n hx hb dX1_allTurn_27 rfl (lv_at hl 0 rfl) ?_
      refine lv_aload_n hx hb dX1_allTurn_28 rfl (lv_at hl 1 rfl) ?_
      refine lv_iload_n hx hb dX1_allTurn_29 rfl (lv_at hl 2 rfl) ?_
      obtain ⟨r_11, ssc_10, hc_9, hrun⟩ := mo2_s rfl hrun
      have hP : va_P D zCl ([] ++ (((cH k ah aw adr aim ard asc ath awl alo atr sh) ++ ((cW k au su_3) ++ (cS k asc ssc_4))) ++ P)) _ := hP
      have hD : va_D A ([] ++ (((cH k ah aw adr aim ard asc ath awl alo atr sh) ++ ((cW k au su_3) ++ (cS k asc ssc_4))) ++ P)) := hD
      refine cWVP [] (((cH k ah aw adr aim ard asc ath awl alo atr sh) ++ ((cW k au su_3) ++ (cS k asc ssc_4))) ++ P) (As := [.ref (au 0), .int x2_2]) (ci := 1) ⟨hx, hb, hml, hown, hts⟩ hOK hz hS hA hP hD (mtX1_turnsBy l D k ah aw adr aim ard asc ath awl alo atr au Z hOK hFa hFw P Sm hPl _ _ _ _ _ _ hc_9) (kX1_turnsBy hts q452 rfl rfl ⟨Nat.le_of_ble_eq_true rfl, Nat.le_of_ble_eq_true rfl⟩) 0 rfl rfl rfl hl.1 rfl (lv_room (Nat.le_of_ble_eq_true rfl)) ⟨Nat.le_of_ble_eq_true rfl, Nat.le_of_ble_eq_true rfl⟩ dX1_allTurn_30 (fun r_ w_ H locs hq hP hD hS => ?_)
      obtain ⟨rfl, rfl⟩ := hq
      have hP : va_P D zCl (((cH k ah aw adr aim ard asc ath awl alo atr sh) ++ ((cW k au su_3) ++ (cS k asc ssc_10))) ++ P) _ := hP
      have hD : va_D A (((cH k ah aw adr aim ard asc ath awl alo atr sh) ++ ((cW k au su_3) ++ (cS k asc ssc_10))) ++ P) := hD
      refine lv_iadd hx hb dX1_allTurn_33 ?_
      obtain ⟨su_13, hc_12, hrun⟩ := mob_s rfl hrun
      have hP := zsubT (w' := (cW k au su_3) ++ ((cH k ah aw adr aim ard asc ath awl alo atr sh) ++ (cS k asc ssc_10))) hP [1, 2, 3, 4, 5, 6, 7, 8, 9, 0, 10] rfl
      have hD := zsubTD (w' := (cW k au su_3) ++ ((cH k ah aw adr aim ard asc ath awl alo atr sh) ++ (cS k asc ssc_10))) hD [1, 2, 3, 4, 5, 6, 7, 8, 9, 0, 10] (by decide) rfl
      have hP : va_P D zCl ([] ++ ((cW k au su_3) ++ (((cH k ah aw adr aim ard asc ath awl alo atr sh) ++ (cS k asc ssc_10)) ++ P))) _ := hP
      have hD : va_D A ([] ++ ((cW k au su_3) ++ (((cH k ah aw adr aim ard asc ath awl alo atr sh) ++ (cS k asc ssc_10)) ++ P))) := hD
      refine cWV [] (cW k au su_3) (((cH k ah aw adr aim ard asc ath awl alo atr sh) ++ (cS k asc ssc_10)) ++ P) (As := [.int x2_2, .int (((wd_doubt su_3) (Int32.toNatClampNeg x2_2)) + r_11)]) (ci := 2) ⟨hx, hb, hml, hown, hts⟩ hOK hz hS hA hP hD (mtX2_doubts l D k au Z hOK _ _ _ _ hc_12) (kX2_doubts hts q545 rfl rfl ⟨Nat.le_of_ble_eq_true rfl, Nat.le_of_ble_eq_true rfl⟩) 0 rfl rfl rfl hl.1 rfl (lv_room (Nat.le_of_ble_eq_true rfl)) ⟨Nat.le_of_ble_eq_true rfl, Nat.le_of_ble_eq_true rfl⟩ dX1_allTurn_34 (fun r_ w_ H locs hq hP hD hS => ?_)
      obtain ⟨rfl, rfl⟩ := hq
      have hP : va_P D zCl (((cW k au su_13) ++ ((cH k ah aw adr aim ard asc ath awl alo atr sh) ++ (cS k asc ssc_10))) ++ P) _ := hP
      have hD : va_D A (((cW k au su_13) ++ ((cH k ah aw adr aim ard asc ath awl alo atr sh) ++ (cS k asc ssc_10))) ++ P) := hD
      have hP := zsubT (w' := ((cH k ah aw adr aim ard asc ath awl alo atr sh) ++ ((cW k au su_13) ++ (cS k asc ssc_10)))) hP [9, 0, 1, 2, 3, 4, 5, 6, 7, 8, 10] rfl
      have hD := zsubTD (w' := ((cH k ah aw adr aim ard asc ath awl alo atr sh) ++ ((cW k au su_13) ++ (cS k asc ssc_10)))) hD [9, 0, 1, 2, 3, 4, 5, 6, 7, 8, 10] (by decide) rfl
      refine lv_iinc (v := (x2_2 + (1 : Int32))) (lv' := [(2, .int (x2_2 + (1 : Int32))), (0, .ref (ah 0)), (1, .ref (au 0))]) hx hb dX1_allTurn_37 hl (k := 2) rfl rfl (by decide) rfl (fun ls hl => ?_)
      refine lv_goto (tgt := 2) hx hb dX1_allTurn_40 (by decide) ?_
      exact ih (x2_2 + (1 : Int32)) su_13 ssc_10 _ _ hP hD hS ls (lv_sub hl [1, 2, 0] rfl) hrun
  exact hL_1 mFU (0 : Int32) su ssc _ _ hP hD hS ls (lv_sub hl [1, 2, 0] rfl) hrun
def rX1_allLook : Room := { frames := 3, cells := 0, slots := 0, locals := 81 }
noncomputable def fX1_allLook_L11 (r_2 : Int32) : Nat → Int32 → Wd → Option (Wd)
  | 0, _, _ => none
  | n + 1, x2_4, su_5 =>
    if (wd_guests su_5) ≤ x2_4 then
      some su_5
    else
      mob (fX1_has r_2 x2_4) fun r_8 =>
      if r_8 = true then
        mo2 (fX2_draw su_5 (10 : Int32)) fun r_12 su_11 =>
        mob (fX2_risk su_11 x2_4) fun r_14 =>
        if r_14 ≤ r_12 then
          fX1_allLook_L11 r_2 n (x2_4 + (1 : Int32)) su_11
        else
          mob (fX2_looks su_11 x2_4) fun su_17 =>
          fX1_allLook_L11 r_2 n (x2_4 + (1 : Int32)) su_17
      else
        fX1_allLook_L11 r_2 n (x2_4 + (1 : Int32)) su_5
noncomputable def fX1_allLook (su : Wd) : Option (Wd) :=
  mob (fX2_watchers su (wd_bath su)) fun r_2 =>
  fX1_allLook_L11 r_2 mFU (0 : Int32) su
theorem kX1_allLook {R : Room} {s : State} {args : Array Value} {own : String} {idx mc ms : Nat} {rm : Room} (hts : ∀ w ∈ lw_all, w.before args s = true) (hl : Cond.methodLink own idx yX1_allLook ∈ lw_all) (hrc : rm.cells = mc) (hrs : rm.slots = ms) (hR : rm.frames + 1 ≤ R.frames ∧ 8 + (3 + 11) + rm.locals ≤ R.locals) : CallB R s args own idx yX1_allLook cX1_allLook 3 none (ws_ yX1_allLook cX1_allLook 3 none) rm mc ms 1 ∧ (Cond.static yX1_allLook).before args s = true :=
  va_cwS 1 hts (lw_S hl q1710 q107 q1711) rfl hrc hrs (by decide +kernel) hR
set_option maxHeartbeats 4000000 in
set_option maxRecDepth 100000 in
theorem mtX1_allLook (l : Launch) (D : va_G) (k : Nat → ClassId) (au : Nat → Nat) (Z : zZ) (hOK : zOK D zCl (zTys k) Z) (su : Wd) (ou : Wd) (hrun : fX1_allLook su = some ou) :
    CtW l yX1_allLook cX1_allLook 3 none rX1_allLook Z D zCl (cW k au su) [.ref (au 0)] (fun r' w' => r' = none ∧ w' = (cW k au ou)) 0 0 := by
  refine CtW.of (by decide) (Nat.le_of_ble_eq_true rfl) ?_
  intro p e s m args below meth c A hE hA hP hD hS hz ls hl
  obtain ⟨hx, hb, hr, hml, hown, hts, hlocks, hname⟩ := hE
  have hown : s.vm.findClass RX1 = some m.cls := hown
  have hK := hOK.1 _ _ _ hz
  have hN := hOK.2.1 _ _ _ hz
  have hl : lv_has ls 3 [(0, .ref (au 0))] := hl
  unfold fX1_allLook at hrun
  refine lv_aload_n hx hb dX1_allLook_0 rfl (lv_at hl 0 rfl) ?_
  refine lv_aload_n hx hb dX1_allLook_1 rfl (lv_at hl 0 rfl) ?_
  refine va_getN (ci := 2) (v := .int (wd_bath su)) (C := RX2) (T := TX2) (N := 21) hx hb hts in_X2 hown hK hP 0 rfl rfl 3 (by decide) (va_Nw.use rfl (hN _ (zN_of q171 rfl))) (fun _ h9 => h9) rfl dX1_allLook_2 ?_
  obtain ⟨r_2, hc_1, hrun⟩ := mob_s rfl hrun
  refine cRV (As := [.int (wd_bath su)]) (ci := 2) ⟨hx, hb, hml, hown, hts⟩ hOK hz hS hP (mtX2_watchers l D k au Z hOK _ _ _ hc_1) (kX2_watchers hts q567 rfl rfl ⟨Nat.le_of_ble_eq_true rfl, Nat.le_of_ble_eq_true rfl⟩) 0 rfl rfl rfl hl.1 rfl (lv_room (Nat.le_of_ble_eq_true rfl)) ⟨Nat.le_of_ble_eq_true rfl, Nat.le_of_ble_eq_true rfl⟩ dX1_allLook_5 ?_
  refine lv_istore_n (lv' := [(1, .int r_2), (0, .ref (au 0))]) hx hb dX1_allLook_8 rfl hl (by decide) rfl (fun ls hl => ?_)
  refine lv_iconst (v := (0 : Int32)) hx hb dX1_allLook_9 (by decide) ?_
  refine lv_istore_n (lv' := [(2, .int (0 : Int32)), (1, .int r_2), (0, .ref (au 0))]) hx hb dX1_allLook_10 rfl hl (by decide) rfl (fun ls hl => ?_)
  have hL_3 : ∀ n : Nat, ∀ (x2_4 : Int32) (su_5 : Wd), ∀ (H : Heap) (locs : List Loc), va_P D zCl (cW k au su_5) H → va_D A (cW k au su_5) → va_S A s.heap H locs → ∀ ls : Array Slot, lv_has ls 3 [(0, .ref (au 0)), (1, .int r_2), (2, .int x2_4)] → fX1_allLook_L11 r_2 n x2_4 su_5 = some ou → W p l e rX1_allLook s m args below meth c H locs 0 0 (MQ below (QWr (fun r' w' => r' = none ∧ w' = (cW k au ou)) D zCl A) args s 0 0 A) (F0 m 11 ls []) := by
    intro n
    induction n with
    | zero =>
      intro x2_4 su_5 H locs hP hD hS ls hl hrun
      exact nomatch hrun
    | succ n ih =>
      intro x2_4 su_5 H locs hP hD hS ls hl hrun
      rw [fX1_allLook_L11.eq_2] at hrun
      refine lv_iload_n hx hb dX1_allLook_11 rfl (lv_at hl 2 rfl) ?_
      refine lv_aload_n hx hb dX1_allLook_12 rfl (lv_at hl 0 rfl) ?_
      refine va_getN (ci := 2) (v := .int (wd_guests su_5)) (C := RX2) (T := TX2) (N := 21) hx hb hts in_X2 hown hK hP 0 rfl rfl 1 (by decide) (va_Nw.use rfl (hN _ (zN_of q166 rfl))) (fun _ h9 => h9) rfl dX1_allLook_13 ?_
      refine lv_icmp_ge (tgt := 52) hx hb dX1_allLook_16 (by decide) (fun c_6 => ?_) (fun c_6 => ?_)
      · have hrun := mif_p c_6 hrun
        cases hrun
        exact retW_v hx hb hr hlocks hP hD hS ⟨rfl, rfl⟩ dX1_allLook_52
      have hrun := mif_n c_6 hrun
      refine lv_iload_n hx hb dX1_allLook_19 rfl (lv_at hl 1 rfl) ?_
      refine lv_iload_n hx hb dX1_allLook_20 rfl (lv_at hl 2 rfl) ?_
      obtain ⟨r_8, hc_7, hrun⟩ := mob_s rfl hrun
      refine cRS (ws := []) (As := [.int r_2, .int x2_4]) ⟨hx, hb, hml, hown, hts⟩ hOK hz hS zP0 (mtX1_has l D Z hOK _ _ _ hc_7) (kX1_has hts q586 rfl rfl ⟨Nat.le_of_ble_eq_true rfl, Nat.le_of_ble_eq_true rfl⟩) rfl hl.1 rfl (lv_room (Nat.le_of_ble_eq_true rfl)) ⟨Nat.le_of_ble_eq_true rfl, Nat.le_of_ble_eq_true rfl⟩ dX1_allLook_21 ?_
      refine lv_if_eq (tgt := 46) hx hb dX1_allLook_24 (by decide) (fun c_9 => ?_) (fun c_9 => ?_)
      · have hrun := mif_n (bz_z c_9) hrun
        refine lv_iinc (v := (x2_4 + (1 : Int32))) (lv' := [(2, .int (x2_4 + (1 : Int32))), (0, .ref (au 0)), (1, .int r_2)]) hx hb dX1_allLook_46 hl (k := 2) rfl rfl (by decide) rfl (fun ls hl => ?_)
        refine lv_goto (tgt := 11) hx hb dX1_allLook_49 (by decide) ?_
        exact ih (x2_4 + (1 : Int32)) su_5 _ _ hP hD hS ls (lv_sub hl [1, 2, 0] rfl) hrun
      have hrun := mif_p (bz_nz c_9) hrun
      refine lv_aload_n hx hb dX1_allLook_27 rfl (lv_at hl 0 rfl) ?_
      refine lv_bipush (v := (10 : Int32)) hx hb dX1_allLook_28 (by decide) ?_
      obtain ⟨r_12, su_11, hc_10, hrun⟩ := mo2_s rfl hrun
      refine cWV0 (As := [.int (10 : Int32)]) (ci := 2) ⟨hx, hb, hml, hown, hts⟩ hOK hz hS hA hP hD (mtX2_draw l D k au Z hOK _ _ _ _ hc_10) (kX2_draw hts q1712 rfl rfl ⟨Nat.le_of_ble_eq_true rfl, Nat.le_of_ble_eq_true rfl⟩) 0 rfl rfl rfl hl.1 rfl (lv_room (Nat.le_of_ble_eq_true rfl)) ⟨Nat.le_of_ble_eq_true rfl, Nat.le_of_ble_eq_true rfl⟩ dX1_allLook_30 (fun r_ w_ H locs hq hP hD hS => ?_)
      obtain ⟨rfl, rfl⟩ := hq
      refine lv_aload_n hx hb dX1_allLook_33 rfl (lv_at hl 0 rfl) ?_
      refine lv_iload_n hx hb dX1_allLook_34 rfl (lv_at hl 2 rfl) ?_
      obtain ⟨r_14, hc_13, hrun⟩ := mob_s rfl hrun
      refine cRV (As := [.int x2_4]) (ci := 2) ⟨hx, hb, hml, hown, hts⟩ hOK hz hS hP (mtX2_risk l D k au Z hOK _ _ _ hc_13) (kX2_risk hts q587 rfl rfl ⟨Nat.le_of_ble_eq_true rfl, Nat.le_of_ble_eq_true rfl⟩) 0 rfl rfl rfl hl.1 rfl (lv_room (Nat.le_of_ble_eq_true rfl)) ⟨Nat.le_of_ble_eq_true rfl, Nat.le_of_ble_eq_true rfl⟩ dX1_allLook_35 ?_
      refine lv_icmp_ge (tgt := 46) hx hb dX1_allLook_38 (by decide) (fun c_15 => ?_) (fun c_15 => ?_)
      · have hrun := mif_p c_15 hrun
        refine lv_iinc (v := (x2_4 + (1 : Int32))) (lv' := [(2, .int (x2_4 + (1 : Int32))), (0, .ref (au 0)), (1, .int r_2)]) hx hb dX1_allLook_46 hl (k := 2) rfl rfl (by decide) rfl (fun ls hl => ?_)
        refine lv_goto (tgt := 11) hx hb dX1_allLook_49 (by decide) ?_
        exact ih (x2_4 + (1 : Int32)) su_11 _ _ hP hD hS ls (lv_sub hl [1, 2, 0] rfl) hrun
      have hrun := mif_n c_15 hrun
      refine lv_aload_n hx hb dX1_allLook_41 rfl (lv_at hl 0 rfl) ?_
      refine lv_iload_n hx hb dX1_allLook_42 rfl (lv_at hl 2 rfl) ?_
      obtain ⟨su_17, hc_16, hrun⟩ := mob_s rfl hrun
      refine cWV0 (As := [.int x2_4]) (ci := 2) ⟨hx, hb, hml, hown, hts⟩ hOK hz hS hA hP hD (mtX2_looks l D k au Z hOK _ _ _ hc_16) (kX2_looks hts q1717 rfl rfl ⟨Nat.le_of_ble_eq_true rfl, Nat.le_of_ble_eq_true rfl⟩) 0 rfl rfl rfl hl.1 rfl (lv_room (Nat.le_of_ble_eq_true rfl)) ⟨Nat.le_of_ble_eq_true rfl, Nat.le_of_ble_eq_true rfl⟩ dX1_allLook_43 (fun r_ w_ H locs hq hP hD hS => ?_)
      obtain ⟨rfl, rfl⟩ := hq
      refine lv_iinc (v := (x2_4 + (1 : Int32))) (lv' := [(2, .int (x2_4 + (1 : Int32))), (0, .ref (au 0)), (1, .int r_2)]) hx hb dX1_allLook_46 hl (k := 2) rfl rfl (by decide) rfl (fun ls hl => ?_)
      refine lv_goto (tgt := 11) hx hb dX1_allLook_49 (by decide) ?_
      exact ih (x2_4 + (1 : Int32)) su_17 _ _ hP hD hS ls (lv_sub hl [1, 2, 0] rfl) hrun
  exact hL_3 mFU (0 : Int32) su _ _ hP hD hS ls (lv_sub hl [2, 1, 0] rfl) hrun
def rX1_oneAhead : Room := { frames := 30, cells := 0, slots := 0, locals := 1047 }
noncomputable def fX1_oneAhead (Sm : zSem) (sh : Kp) (sth : Wd) (ssc : Sc) : Option (Wd × Sc) :=
  mob (fX1_allTurn Sm sh sth ssc) fun q_4 =>
  mob (fX2_builds (q_4.1)) fun sth_6 =>
  mob (fX2_ends sth_6) fun sth_8 =>
  some (sth_8, (q_4.2))
theorem kX1_oneAhead {R : Room} {s : State} {args : Array Value} {own : String} {idx mc ms : Nat} {rm : Room} (hts : ∀ w ∈ lw_all, w.before args s = true) (hl : Cond.methodLink own idx yX1_oneAhead ∈ lw_all) (hrc : rm.cells = mc) (hrs : rm.slots = ms) (hR : rm.frames + 1 ≤ R.frames ∧ 8 + (1 + 11) + rm.locals ≤ R.locals) : CallW R s args own RX1 idx yX1_oneAhead cX1_oneAhead 1 none (ws_ yX1_oneAhead cX1_oneAhead 1 none) rm mc ms 0 :=
  cwV 0 hts (lw_V hl q446 qs0 q107 q447) rfl hrc hrs (by decide +kernel) hR
set_option maxHeartbeats 4000000 in
set_option maxRecDepth 100000 in
theorem mtX1_oneAhead (l : Launch) (D : va_G) (k : Nat → ClassId) (ah : Nat → Nat) (aw : Nat → Nat) (adr : Nat → Nat) (aim : Nat → Nat) (ard : Nat → Nat) (asc : Nat → Nat) (ath : Nat → Nat) (awl : Nat → Nat) (alo : Nat → Nat) (atr : Nat → Nat) (Z : zZ) (hOK : zOK D zCl (zTys k) Z) {e0 : Nat} {aF : Nat → Nat} (hFa : zFa Z aF) (hFw : zFw Z) (P : va_W) (Sm : zSem) (hPl : zPl k e0 aF P Sm) (sh : Kp) (sth : Wd) (ssc : Sc) (oth : Wd) (osc : Sc) (hrun : fX1_oneAhead Sm sh sth ssc = some (oth, osc)) :
    CtW l yX1_oneAhead cX1_oneAhead 1 none rX1_oneAhead Z D zCl (((cH k ah aw adr aim ard asc ath awl alo atr sh) ++ ((cW k ath sth) ++ (cS k asc ssc))) ++ P) [.ref (ah 0)] (fun r' w' => r' = none ∧ w' = (((cH k ah aw adr aim ard asc ath awl alo atr sh) ++ ((cW k ath oth) ++ (cS k asc osc))) ++ P)) 0 0 := by
  refine CtW.of (by decide) (Nat.le_of_ble_eq_true rfl) ?_
  intro p e s m args below meth c A hE hA hP hD hS hz ls hl
  obtain ⟨hx, hb, hr, hml, hown, hts, hlocks, hname⟩ := hE
  have hown : s.vm.findClass RX1 = some m.cls := hown
  have hK := hOK.1 _ _ _ hz
  have hN := hOK.2.1 _ _ _ hz
  have hl : lv_has ls 1 [(0, .ref (ah 0))] := hl
  unfold fX1_oneAhead at hrun
  refine lv_aload_n hx hb dX1_oneAhead_0 rfl (lv_at hl 0 rfl) ?_
  refine lv_aload_n hx hb dX1_oneAhead_1 rfl (lv_at hl 0 rfl) ?_
  refine va_get (ci := 1) (v := .ref (ath 0)) (C := RX1) (T := TX1) (N := 10) hx hb hts in_X1 hown hK hP 0 rfl rfl 6 (by decide) (hts _ q377) (fun _ h9 => h9) rfl dX1_oneAhead_2 ?_
  obtain ⟨⟨sth_2, ssc_3⟩, hc_1, hrun⟩ := mob_s rfl hrun
  have hP : va_P D zCl ([] ++ (((cH k ah aw adr aim ard asc ath awl alo atr sh) ++ ((cW k ath sth) ++ (cS k asc ssc))) ++ P)) _ := hP
  have hD : va_D A ([] ++ (((cH k ah aw adr aim ard asc ath awl alo atr sh) ++ ((cW k ath sth) ++ (cS k asc ssc))) ++ P)) := hD
  refine cWVP [] (((cH k ah aw adr aim ard asc ath awl alo atr sh) ++ ((cW k ath sth) ++ (cS k asc ssc))) ++ P) (As := [.ref (ath 0)]) (ci := 1) ⟨hx, hb, hml, hown, hts⟩ hOK hz hS hA hP hD (mtX1_allTurn l D k ah aw adr aim ard asc ath awl alo atr ath Z hOK hFa hFw P Sm hPl _ _ _ _ _ hc_1) (kX1_allTurn hts q448 rfl rfl ⟨Nat.le_of_ble_eq_true rfl, Nat.le_of_ble_eq_true rfl⟩) 0 rfl rfl rfl hl.1 rfl (lv_room (Nat.le_of_ble_eq_true rfl)) ⟨Nat.le_of_ble_eq_true rfl, Nat.le_of_ble_eq_true rfl⟩ dX1_oneAhead_5 (fun r_ w_ H locs hq hP hD hS => ?_)
  obtain ⟨rfl, rfl⟩ := hq
  have hP : va_P D zCl (((cH k ah aw adr aim ard asc ath awl alo atr sh) ++ ((cW k ath sth_2) ++ (cS k asc ssc_3))) ++ P) _ := hP
  have hD : va_D A (((cH k ah aw adr aim ard asc ath awl alo atr sh) ++ ((cW k ath sth_2) ++ (cS k asc ssc_3))) ++ P) := hD
  refine lv_aload_n hx hb dX1_oneAhead_8 rfl (lv_at hl 0 rfl) ?_
  refine va_get (ci := 1) (v := .ref (ath 0)) (C := RX1) (T := TX1) (N := 10) hx hb hts in_X1 hown hK hP 0 rfl rfl 6 (by decide) (hts _ q377) (fun _ h9 => h9) rfl dX1_oneAhead_9 ?_
  obtain ⟨sth_6, hc_5, hrun⟩ := mob_s rfl hrun
  have hP := zsubT (w' := (cW k ath sth_2) ++ ((cH k ah aw adr aim ard asc ath awl alo atr sh) ++ (cS k asc ssc_3))) hP [1, 2, 3, 4, 5, 6, 7, 8, 9, 0, 10] rfl
  have hD := zsubTD (w' := (cW k ath sth_2) ++ ((cH k ah aw adr aim ard asc ath awl alo atr sh) ++ (cS k asc ssc_3))) hD [1, 2, 3, 4, 5, 6, 7, 8, 9, 0, 10] (by decide) rfl
  have hP : va_P D zCl ([] ++ ((cW k ath sth_2) ++ (((cH k ah aw adr aim ard asc ath awl alo atr sh) ++ (cS k asc ssc_3)) ++ P))) _ := hP
  have hD : va_D A ([] ++ ((cW k ath sth_2) ++ (((cH k ah aw adr aim ard asc ath awl alo atr sh) ++ (cS k asc ssc_3)) ++ P))) := hD
  refine cWV [] (cW k ath sth_2) (((cH k ah aw adr aim ard asc ath awl alo atr sh) ++ (cS k asc ssc_3)) ++ P) (As := []) (ci := 2) ⟨hx, hb, hml, hown, hts⟩ hOK hz hS hA hP hD (mtX2_builds l D k ath Z hOK _ _ hc_5) (kX2_builds hts q555 rfl rfl ⟨Nat.le_of_ble_eq_true rfl, Nat.le_of_ble_eq_true rfl⟩) 0 rfl rfl rfl hl.1 rfl (lv_room (Nat.le_of_ble_eq_true rfl)) ⟨Nat.le_of_ble_eq_true rfl, Nat.le_of_ble_eq_true rfl⟩ dX1_oneAhead_12 (fun r_ w_ H locs hq hP hD hS => ?_)
  obtain ⟨rfl, rfl⟩ := hq
  have hP : va_P D zCl (((cW k ath sth_6) ++ ((cH k ah aw adr aim ard asc ath awl alo atr sh) ++ (cS k asc ssc_3))) ++ P) _ := hP
  have hD : va_D A (((cW k ath sth_6) ++ ((cH k ah aw adr aim ard asc ath awl alo atr sh) ++ (cS k asc ssc_3))) ++ P) := hD
  have hP := zsubT (w' := ((cH k ah aw adr aim ard asc ath awl alo atr sh) ++ ((cW k ath sth_6) ++ (cS k asc ssc_3)))) hP [9, 0, 1, 2, 3, 4, 5, 6, 7, 8, 10] rfl
  have hD := zsubTD (w' := ((cH k ah aw adr aim ard asc ath awl alo atr sh) ++ ((cW k ath sth_6) ++ (cS k asc ssc_3)))) hD [9, 0, 1, 2, 3, 4, 5, 6, 7, 8, 10] (by decide) rfl
  refine lv_aload_n hx hb dX1_oneAhead_15 rfl (lv_at hl 0 rfl) ?_
  refine va_get (ci := 1) (v := .ref (ath 0)) (C := RX1) (T := TX1) (N := 10) hx hb hts in_X1 hown hK hP 0 rfl rfl 6 (by decide) (hts _ q377) (fun _ h9 => h9) rfl dX1_oneAhead_16 ?_
  obtain ⟨sth_8, hc_7, hrun⟩ := mob_s rfl hrun
  have hP := zsubT (w' := (cW k ath sth_6) ++ ((cH k ah aw adr aim ard asc ath awl alo atr sh) ++ (cS k asc ssc_3))) hP [1, 2, 3, 4, 5, 6, 7, 8, 9, 0, 10] rfl
  have hD := zsubTD (w' := (cW k ath sth_6) ++ ((cH k ah aw adr aim ard asc ath awl alo atr sh) ++ (cS k asc ssc_3))) hD [1, 2, 3, 4, 5, 6, 7, 8, 9, 0, 10] (by decide) rfl
  have hP : va_P D zCl ([] ++ ((cW k ath sth_6) ++ (((cH k ah aw adr aim ard asc ath awl alo atr sh) ++ (cS k asc ssc_3)) ++ P))) _ := hP
  have hD : va_D A ([] ++ ((cW k ath sth_6) ++ (((cH k ah aw adr aim ard asc ath awl alo atr sh) ++ (cS k asc ssc_3)) ++ P))) := hD
  refine cWV [] (cW k ath sth_6) (((cH k ah aw adr aim ard asc ath awl alo atr sh) ++ (cS k asc ssc_3)) ++ P) (As := []) (ci := 2) ⟨hx, hb, hml, hown, hts⟩ hOK hz hS hA hP hD (mtX2_ends l D k ath Z hOK _ _ hc_7) (kX2_ends hts q559 rfl rfl ⟨Nat.le_of_ble_eq_true rfl, Nat.le_of_ble_eq_true rfl⟩) 0 rfl rfl rfl hl.1 rfl (lv_room (Nat.le_of_ble_eq_true rfl)) ⟨Nat.le_of_ble_eq_true rfl, Nat.le_of_ble_eq_true rfl⟩ dX1_oneAhead_19 (fun r_ w_ H locs hq hP hD hS => ?_)
  obtain ⟨rfl, rfl⟩ := hq
  have hP : va_P D zCl (((cW k ath sth_8) ++ ((cH k ah aw adr aim ard asc ath awl alo atr sh) ++ (cS k asc ssc_3))) ++ P) _ := hP
  have hD : va_D A (((cW k ath sth_8) ++ ((cH k ah aw adr aim ard asc ath awl alo atr sh) ++ (cS k asc ssc_3))) ++ P) := hD
  have hP := zsubT (w' := ((cH k ah aw adr aim ard asc ath awl alo atr sh) ++ ((cW k ath sth_8) ++ (cS k asc ssc_3)))) hP [9, 0, 1, 2, 3, 4, 5, 6, 7, 8, 10] rfl
  have hD := zsubTD (w' := ((cH k ah aw adr aim ard asc ath awl alo atr sh) ++ ((cW k ath sth_8) ++ (cS k asc ssc_3)))) hD [9, 0, 1, 2, 3, 4, 5, 6, 7, 8, 10] (by decide) rfl
  cases hrun
  exact retW_v hx hb hr hlocks hP hD hS ⟨rfl, rfl⟩ dX1_oneAhead_22
def rX1_worldAt : Room := { frames := 31, cells := 0, slots := 0, locals := 1067 }
noncomputable def fX1_worldAt_L14 (p1 : Int32) (K_6 : Wd → Sc → Option (Wd × Sc)) (Sm : zSem) (sh : Kp) : Nat → Int32 → Wd → Sc → Option (Wd × Sc)
  | 0, _, _, _ => none
  | n + 1, x2_8, sth_9, ssc_10 =>
    if p1 ≤ x2_8 then
      K_6 sth_9 ssc_10
    else
      mob (fX1_oneAhead Sm sh sth_9 ssc_10) fun q_15 =>
      fX1_worldAt_L14 p1 K_6 Sm sh n (x2_8 + (1 : Int32)) (q_15.1) (q_15.2)
noncomputable def fX1_worldAt (Sm : zSem) (sh : Kp) (sw : Wd) (sth : Wd) (ssc : Sc) (p1 : Int32) : Option (Wd × Sc) :=
  mob (fX2_likens sth sw) fun sth_2 =>
  mjn (fun (sth_4 : Wd) (ssc_5 : Sc) =>
  some (sth_4, ssc_5)) fun K_6 =>
  fX1_worldAt_L14 p1 K_6 Sm sh mFU (0 : Int32) sth_2 ssc
theorem kX1_worldAt {R : Room} {s : State} {args : Array Value} {own : String} {idx mc ms : Nat} {rm : Room} (hts : ∀ w ∈ lw_all, w.before args s = true) (hl : Cond.methodLink own idx yX1_worldAt ∈ lw_all) (hrc : rm.cells = mc) (hrs : rm.slots = ms) (hR : rm.frames + 1 ≤ R.frames ∧ 8 + (3 + 11) + rm.locals ≤ R.locals) : CallW R s args own RX1 idx yX1_worldAt cX1_worldAt 3 (some (.object "SaturdayKeep$World")) (ws_ yX1_worldAt cX1_worldAt 3 (some (.object "SaturdayKeep$World"))) rm mc ms 1 :=
  cwV 1 hts (lw_V hl q1730 qs39 q107 q1731) rfl hrc hrs (by decide +kernel) hR
set_option maxHeartbeats 4000000 in
set_option maxRecDepth 100000 in
theorem mtX1_worldAt (l : Launch) (D : va_G) (k : Nat → ClassId) (ah : Nat → Nat) (aw : Nat → Nat) (adr : Nat → Nat) (aim : Nat → Nat) (ard : Nat → Nat) (asc : Nat → Nat) (ath : Nat → Nat) (awl : Nat → Nat) (alo : Nat → Nat) (atr : Nat → Nat) (Z : zZ) (hOK : zOK D zCl (zTys k) Z) {e0 : Nat} {aF : Nat → Nat} (hFa : zFa Z aF) (hFw : zFw Z) (P : va_W) (Sm : zSem) (hPl : zPl k e0 aF P Sm) (sh : Kp) (sw : Wd) (sth : Wd) (ssc : Sc) (p1 : Int32) (oth : Wd) (osc : Sc) (hrun : fX1_worldAt Sm sh sw sth ssc p1 = some (oth, osc)) :
    CtW l yX1_worldAt cX1_worldAt 3 (some (.object "SaturdayKeep$World")) rX1_worldAt Z D zCl (((cH k ah aw adr aim ard asc ath awl alo atr sh) ++ ((cW k aw sw) ++ ((cW k ath sth) ++ (cS k asc ssc)))) ++ P) [.ref (ah 0), .int p1] (fun r' w' => r' = (some (.ref (ath 0))) ∧ w' = (((cH k ah aw adr aim ard asc ath awl alo atr sh) ++ ((cW k aw sw) ++ ((cW k ath oth) ++ (cS k asc osc)))) ++ P)) 0 0 := by
  refine CtW.of (by decide) (Nat.le_of_ble_eq_true rfl) ?_
  intro p e s m args below meth c A hE hA hP hD hS hz ls hl
  obtain ⟨hx, hb, hr, hml, hown, hts, hlocks, hname⟩ := hE
  have hown : s.vm.findClass RX1 = some m.cls := hown
  have hK := hOK.1 _ _ _ hz
  have hN := hOK.2.1 _ _ _ hz
  have hl : lv_has ls 3 [(0, .ref (ah 0)), (1, .int p1)] := hl
  unfold fX1_worldAt at hrun
  refine lv_aload_n hx hb dX1_worldAt_0 rfl (lv_at hl 0 rfl) ?_
  refine va_get (ci := 1) (v := .ref (ath 0)) (C := RX1) (T := TX1) (N := 10) hx hb hts in_X1 hown hK hP 0 rfl rfl 6 (by decide) (hts _ q377) (fun _ h9 => h9) rfl dX1_worldAt_1 ?_
  refine lv_aload_n hx hb dX1_worldAt_4 rfl (lv_at hl 0 rfl) ?_
  refine va_get (ci := 1) (v := .ref (aw 0)) (C := RX1) (T := TX1) (N := 10) hx hb hts in_X1 hown hK hP 0 rfl rfl 0 (by decide) (hts _ q370) (fun _ h9 => h9) rfl dX1_worldAt_5 ?_
  obtain ⟨sth_2, hc_1, hrun⟩ := mob_s rfl hrun
  have hP := zsubT (w' := ((cW k ath sth) ++ (cW k aw sw)) ++ ((cH k ah aw adr aim ard asc ath awl alo atr sh) ++ (cS k asc ssc))) hP [10, 11, 12, 13, 14, 15, 16, 17, 18, 1, 2, 3, 4, 5, 6, 7, 8, 9, 0, 19] rfl
  have hD := zsubTD (w' := ((cW k ath sth) ++ (cW k aw sw)) ++ ((cH k ah aw adr aim ard asc ath awl alo atr sh) ++ (cS k asc ssc))) hD [10, 11, 12, 13, 14, 15, 16, 17, 18, 1, 2, 3, 4, 5, 6, 7, 8, 9, 0, 19] (by decide) rfl
  have hP : va_P D zCl ([] ++ (((cW k ath sth) ++ (cW k aw sw)) ++ (((cH k ah aw adr aim ard asc ath awl alo atr sh) ++ (cS k asc ssc)) ++ P))) _ := hP
  have hD : va_D A ([] ++ (((cW k ath sth) ++ (cW k aw sw)) ++ (((cH k ah aw adr aim ard asc ath awl alo atr sh) ++ (cS k asc ssc)) ++ P))) := hD
  refine cWV [] ((cW k ath sth) ++ (cW k aw sw)) (((cH k ah aw adr aim ard asc ath awl alo atr sh) ++ (cS k asc ssc)) ++ P) (As := [.ref (aw 0)]) (ci := 2) ⟨hx, hb, hml, hown, hts⟩ hOK hz hS hA hP hD (mtX2_likens l D k ath aw Z hOK _ _ _ hc_1) (kX2_likens hts q434 rfl rfl ⟨Nat.le_of_ble_eq_true rfl, Nat.le_of_ble_eq_true rfl⟩) 0 rfl rfl rfl hl.1 rfl (lv_room (Nat.le_of_ble_eq_true rfl)) ⟨Nat.le_of_ble_eq_true rfl, Nat.le_of_ble_eq_true rfl⟩ dX1_worldAt_8 (fun r_ w_ H locs hq hP hD hS => ?_)
  obtain ⟨rfl, rfl⟩ := hq
  have hP : va_P D zCl (((cW k ath sth_2) ++ ((cW k aw sw) ++ ((cH k ah aw adr aim ard asc ath awl alo atr sh) ++ (cS k asc ssc)))) ++ P) _ := hP
  have hD : va_D A (((cW k ath sth_2) ++ ((cW k aw sw) ++ ((cH k ah aw adr aim ard asc ath awl alo atr sh) ++ (cS k asc ssc)))) ++ P) := hD
  have hP := zsubT (w' := ((cH k ah aw adr aim ard asc ath awl alo atr sh) ++ ((cW k aw sw) ++ ((cW k ath sth_2) ++ (cS k asc ssc))))) hP [18, 9, 10, 11, 12, 13, 14, 15, 16, 17, 0, 1, 2, 3, 4, 5, 6, 7, 8, 19] rfl
  have hD := zsubTD (w' := ((cH k ah aw adr aim ard asc ath awl alo atr sh) ++ ((cW k aw sw) ++ ((cW k ath sth_2) ++ (cS k asc ssc))))) hD [18, 9, 10, 11, 12, 13, 14, 15, 16, 17, 0, 1, 2, 3, 4, 5, 6, 7, 8, 19] (by decide) rfl
  refine lv_pop hx hb dX1_worldAt_11 rfl ?_
  refine lv_iconst (v := (0 : Int32)) hx hb dX1_worldAt_12 (by decide) ?_
  refine lv_istore_n (lv' := [(2, .int (0 : Int32)), (0, .ref (ah 0)), (1, .int p1)]) hx hb dX1_worldAt_13 rfl hl (by decide) rfl (fun ls hl => ?_)
  obtain ⟨K_6, hK_6, hrun⟩ := mjn_s hrun
  have hj_3 : ∀ (sth_4 : Wd) (ssc_5 : Sc), ∀ (H : Heap) (locs : List Loc), va_P D zCl (((cH k ah aw adr aim ard asc ath awl alo atr sh) ++ ((cW k aw sw) ++ ((cW k ath sth_4) ++ (cS k asc ssc_5)))) ++ P) H → va_D A (((cH k ah aw adr aim ard asc ath awl alo atr sh) ++ ((cW k aw sw) ++ ((cW k ath sth_4) ++ (cS k asc ssc_5)))) ++ P) → va_S A s.heap H locs → ∀ ls : Array Slot, lv_has ls 3 [(0, .ref (ah 0))] → K_6 sth_4 ssc_5 = some (oth, osc) → W p l e rX1_worldAt s m args below meth c H locs 0 0 (MQ below (QWr (fun r' w' => r' = (some (.ref (ath 0))) ∧ w' = (((cH k ah aw adr aim ard asc ath awl alo atr sh) ++ ((cW k aw sw) ++ ((cW k ath oth) ++ (cS k asc osc)))) ++ P)) D zCl A) args s 0 0 A) (F0 m 29 ls []) := by
    intro sth_4 ssc_5 H locs hP hD hS ls hl hrun
    rw [hK_6] at hrun
    refine lv_aload_n hx hb dX1_worldAt_29 rfl (lv_at hl 0 rfl) ?_
    refine va_get (ci := 1) (v := .ref (ath 0)) (C := RX1) (T := TX1) (N := 10) hx hb hts in_X1 hown hK hP 0 rfl rfl 6 (by decide) (hts _ q377) (fun _ h9 => h9) rfl dX1_worldAt_30 ?_
    cases hrun
    exact retW_a hx hb hr (Or.inl ⟨_, rfl⟩) hlocks hP hD hS ⟨rfl, rfl⟩ dX1_worldAt_33
  have hL_7 : ∀ n : Nat, ∀ (x2_8 : Int32) (sth_9 : Wd) (ssc_10 : Sc), ∀ (H : Heap) (locs : List Loc), va_P D zCl (((cH k ah aw adr aim ard asc ath awl alo atr sh) ++ ((cW k aw sw) ++ ((cW k ath sth_9) ++ (cS k asc ssc_10)))) ++ P) H → va_D A (((cH k ah aw adr aim ard asc ath awl alo atr sh) ++ ((cW k aw sw) ++ ((cW k ath sth_9) ++ (cS k asc ssc_10)))) ++ P) → va_S A s.heap H locs → ∀ ls : Array Slot, lv_has ls 3 [(0, .ref (ah 0)), (1, .int p1), (2, .int x2_8)] → fX1_worldAt_L14 p1 K_6 Sm sh n x2_8 sth_9 ssc_10 = some (oth, osc) → W p l e rX1_worldAt s m args below meth c H locs 0 0 (MQ below (QWr (fun r' w' => r' = (some (.ref (ath 0))) ∧ w' = (((cH k ah aw adr aim ard asc ath awl alo atr sh) ++ ((cW k aw sw) ++ ((cW k ath oth) ++ (cS k asc osc)))) ++ P)) D zCl A) args s 0 0 A) (F0 m 14 ls []) := by
    intro n
    induction n with
    | zero =>
      intro x2_8 sth_9 ssc_10 H locs hP hD hS ls hl hrun
      exact nomatch hrun
    | succ n ih =>
      intro x2_8 sth_9 ssc_10 H locs hP hD hS ls hl hrun
      rw [fX1_worldAt_L14.eq_2] at hrun
      refine lv_iload_n hx hb dX1_worldAt_14 rfl (lv_at hl 2 rfl) ?_
      refine lv_iload_n hx hb dX1_worldAt_15 rfl (lv_at hl 1 rfl) ?_
      refine lv_icmp_ge (tgt := 29) hx hb dX1_worldAt_16 (by decide) (fun c_11 => ?_) (fun c_11 => ?_)
      · have hrun := mif_p c_11 hrun
        exact hj_3 sth_9 ssc_10 _ _ hP hD hS ls (lv_sub hl [0] rfl) hrun
      have hrun := mif_n c_11 hrun
      refine lv_aload_n hx hb dX1_worldAt_19 rfl (lv_at hl 0 rfl) ?_
      obtain ⟨⟨sth_13, ssc_14⟩, hc_12, hrun⟩ := mob_s rfl hrun
      have hP := zsubT (w' := (cW k aw sw) ++ ((cH k ah aw adr aim ard asc ath awl alo atr sh) ++ ((cW k ath sth_9) ++ (cS k asc ssc_10)))) hP [1, 2, 3, 4, 5, 6, 7, 8, 9, 0, 10, 11, 12, 13, 14, 15, 16, 17, 18, 19] rfl
      have hD := zsubTD (w' := (cW k aw sw) ++ ((cH k ah aw adr aim ard asc ath awl alo atr sh) ++ ((cW k ath sth_9) ++ (cS k asc ssc_10)))) hD [1, 2, 3, 4, 5, 6, 7, 8, 9, 0, 10, 11, 12, 13, 14, 15, 16, 17, 18, 19] (by decide) rfl
      have hP : va_P D zCl ((cW k aw sw) ++ (((cH k ah aw adr aim ard asc ath awl alo atr sh) ++ ((cW k ath sth_9) ++ (cS k asc ssc_10))) ++ P)) _ := hP
      have hD : va_D A ((cW k aw sw) ++ (((cH k ah aw adr aim ard asc ath awl alo atr sh) ++ ((cW k ath sth_9) ++ (cS k asc ssc_10))) ++ P)) := hD
      refine cWVP (cW k aw sw) (((cH k ah aw adr aim ard asc ath awl alo atr sh) ++ ((cW k ath sth_9) ++ (cS k asc ssc_10))) ++ P) (As := []) (ci := 1) ⟨hx, hb, hml, hown, hts⟩ hOK hz hS hA hP hD (mtX1_oneAhead l D k ah aw adr aim ard asc ath awl alo atr Z hOK hFa hFw P Sm hPl _ _ _ _ _ hc_12) (kX1_oneAhead hts q444 rfl rfl ⟨Nat.le_of_ble_eq_true rfl, Nat.le_of_ble_eq_true rfl⟩) 0 rfl rfl rfl hl.1 rfl (lv_room (Nat.le_of_ble_eq_true rfl)) ⟨Nat.le_of_ble_eq_true rfl, Nat.le_of_ble_eq_true rfl⟩ dX1_worldAt_20 (fun r_ w_ H locs hq hP hD hS => ?_)
      obtain ⟨rfl, rfl⟩ := hq
      have hP : va_P D zCl (((cW k aw sw) ++ ((cH k ah aw adr aim ard asc ath awl alo atr sh) ++ ((cW k ath sth_13) ++ (cS k asc ssc_14)))) ++ P) _ := hP
      have hD : va_D A (((cW k aw sw) ++ ((cH k ah aw adr aim ard asc ath awl alo atr sh) ++ ((cW k ath sth_13) ++ (cS k asc ssc_14)))) ++ P) := hD
      have hP := zsubT (w' := ((cH k ah aw adr aim ard asc ath awl alo atr sh) ++ ((cW k aw sw) ++ ((cW k ath sth_13) ++ (cS k asc ssc_14))))) hP [9, 0, 1, 2, 3, 4, 5, 6, 7, 8, 10, 11, 12, 13, 14, 15, 16, 17, 18, 19] rfl
      have hD := zsubTD (w' := ((cH k ah aw adr aim ard asc ath awl alo atr sh) ++ ((cW k aw sw) ++ ((cW k ath sth_13) ++ (cS k asc ssc_14))))) hD [9, 0, 1, 2, 3, 4, 5, 6, 7, 8, 10, 11, 12, 13, 14, 15, 16, 17, 18, 19] (by decide) rfl
      refine lv_iinc (v := (x2_8 + (1 : Int32))) (lv' := [(2, .int (x2_8 + (1 : Int32))), (0, .ref (ah 0)), (1, .int p1)]) hx hb dX1_worldAt_23 hl (k := 2) rfl rfl (by decide) rfl (fun ls hl => ?_)
      refine lv_goto (tgt := 14) hx hb dX1_worldAt_26 (by decide) ?_
      exact ih (x2_8 + (1 : Int32)) sth_13 ssc_14 _ _ hP hD hS ls (lv_sub hl [1, 2, 0] rfl) hrun
  exact hL_7 mFU (0 : Int32) sth_2 ssc _ _ hP hD hS ls (lv_sub hl [1, 2, 0] rfl) hrun
def rX1_ahead : Room := { frames := 32, cells := 3, slots := 18, locals := 1089 }
noncomputable def fX1_ahead (Sm : zSem) (sh : Kp) (sw : Wd) (sth : Wd) (ssc : Sc) (p1 : Int32) (p2 : Int32) (p3 : Int32) : Option ((String × Wd × Sc) ⊕ (Int32 × Wd × Sc)) :=
  mox (fX1_guestAt sh sw p1) (fun E_3 => some (.inl (E_3, (sth, ssc)))) fun _ =>
  mob (fX1_in p2 (0 : Int32) (400 : Int32)) fun r_5 =>
  mox (fX1_demand r_5) (fun E_8 => some (.inl (E_8, (sth, ssc)))) fun _ =>
  mox (fX1_question p3 (2 : Int32)) (fun E_11 => some (.inl (E_11, (sth, ssc)))) fun _ =>
  mob (fX1_worldAt Sm sh sw sth ssc p2) fun q_15 =>
  if p3 = (0 : Int32) then
    mck p1 8 <|
    some (.inr (((wd_doubt (q_15.1)) (Int32.toNatClampNeg p1)), ((q_15.1), (q_15.2))))
  else
    if p3 = (1 : Int32) then
      some (.inr ((wd_towers (q_15.1)), ((q_15.1), (q_15.2))))
    else
      some (.inr ((wd_stones (q_15.1)), ((q_15.1), (q_15.2))))
theorem kX1_ahead {R : Room} {s : State} {args : Array Value} {own : String} {idx mc ms : Nat} {rm : Room} (hts : ∀ w ∈ lw_all, w.before args s = true) (hl : Cond.methodLink own idx yX1_ahead ∈ lw_all) (hrc : rm.cells = mc) (hrs : rm.slots = ms) (hR : rm.frames + 1 ≤ R.frames ∧ 8 + (5 + 11) + rm.locals ≤ R.locals) : CallW R s args own RX1 idx yX1_ahead cX1_ahead 5 (some .int) (ws_ yX1_ahead cX1_ahead 5 (some .int)) rm mc ms 3 :=
  cwV 3 hts (lw_V hl q1725 q1726 q107 q1727) rfl hrc hrs (by decide +kernel) hR
set_option maxHeartbeats 4000000 in
set_option maxRecDepth 100000 in
theorem mtX1_ahead (l : Launch) (D : va_G) (k : Nat → ClassId) (ah : Nat → Nat) (aw : Nat → Nat) (adr : Nat → Nat) (aim : Nat → Nat) (ard : Nat → Nat) (asc : Nat → Nat) (ath : Nat → Nat) (awl : Nat → Nat) (alo : Nat → Nat) (atr : Nat → Nat) (Z : zZ) (hOK : zOK D zCl (zTys k) Z) (hlt : l.stackTraces = false) (hTh : zTh Z) {e0 : Nat} {aF : Nat → Nat} (hFa : zFa Z aF) (hFw : zFw Z) (P : va_W) (Sm : zSem) (hPl : zPl k e0 aF P Sm) (sh : Kp) (sw : Wd) (sth : Wd) (ssc : Sc) (p1 : Int32) (p2 : Int32) (p3 : Int32) (o : (String × Wd × Sc) ⊕ (Int32 × Wd × Sc)) (hrun : fX1_ahead Sm sh sw sth ssc p1 p2 p3 = some o) :
    CtX l yX1_ahead cX1_ahead 5 (some .int) rX1_ahead Z D zCl (((cH k ah aw adr aim ard asc ath awl alo atr sh) ++ ((cW k aw sw) ++ ((cW k ath sth) ++ (cS k asc ssc)))) ++ P) [.ref (ah 0), .int p1, .int p2, .int p3] (fun r' w' => ∃ (r : Int32) (oth : Wd) (osc : Sc), o = .inr (r, (oth, osc)) ∧ r' = (some (.int r)) ∧ w' = (((cH k ah aw adr aim ard asc ath awl alo atr sh) ++ ((cW k aw sw) ++ ((cW k ath oth) ++ (cS k asc osc)))) ++ P)) (fun E' w' => ∃ (oth : Wd) (osc : Sc), o = .inl (E', (oth, osc)) ∧ w' = (((cH k ah aw adr aim ard asc ath awl alo atr sh) ++ ((cW k aw sw) ++ ((cW k ath oth) ++ (cS k asc osc)))) ++ P)) 3 18 := by
  refine CtX.of (by decide) (Nat.le_of_ble_eq_true rfl) ?_
  intro p e s m args below meth c A hE hnoh hA hP hD hS hz ls hl
  obtain ⟨hx, hb, hr, hml, hown, hts, hlocks, hname⟩ := hE
  have hown : s.vm.findClass RX1 = some m.cls := hown
  have hK := hOK.1 _ _ _ hz
  have hN := hOK.2.1 _ _ _ hz
  have hl : lv_has ls 5 [(0, .ref (ah 0)), (1, .int p1), (2, .int p2), (3, .int p3)] := hl
  unfold fX1_ahead at hrun
  refine lv_aload_n hx hb dX1_ahead_0 rfl (lv_at hl 0 rfl) ?_
  refine lv_iload_n hx hb dX1_ahead_1 rfl (lv_at hl 1 rfl) ?_
  obtain ⟨o_2, hc_1, hrun⟩ := mox_s rfl hrun
  have hP : va_P D zCl ([] ++ (((cH k ah aw adr aim ard asc ath awl alo atr sh) ++ (cW k aw sw)) ++ (((cW k ath sth) ++ (cS k asc ssc)) ++ P))) _ := hP
  have hD : va_D A ([] ++ (((cH k ah aw adr aim ard asc ath awl alo atr sh) ++ (cW k aw sw)) ++ (((cW k ath sth) ++ (cS k asc ssc)) ++ P))) := hD
  refine cXV [] ((cH k ah aw adr aim ard asc ath awl alo atr sh) ++ (cW k aw sw)) (((cW k ath sth) ++ (cS k asc ssc)) ++ P) (As := [.int p1]) (ci := 1) ⟨hx, hb, hml, hown, hts⟩ hOK hz hS hA hP hD (mtX1_guestAt l D k ah aw adr aim ard asc ath awl alo atr Z hOK hlt hTh _ _ _ o_2 hc_1) (kX1_guestAt hts q1552 rfl rfl ⟨Nat.le_of_ble_eq_true rfl, Nat.le_of_ble_eq_true rfl⟩) 0 rfl rfl rfl hl.1 rfl (lv_room (Nat.le_of_ble_eq_true rfl)) ⟨Nat.le_of_ble_eq_true rfl, Nat.le_of_ble_eq_true rfl⟩ dX1_ahead_2 (fun E_ w_ ce_ q9_ H locs hq hP hD hS hce hcv hcl => ?_) (fun r_ w_ H locs hq hP hD hS => ?_)
  · obtain ⟨rfl, rfl⟩ := hq
    have hrun := moxl hrun
    cases hrun
    have hP : va_P D zCl (((cH k ah aw adr aim ard asc ath awl alo atr sh) ++ ((cW k aw sw) ++ ((cW k ath sth) ++ (cS k asc ssc)))) ++ P) _ := hP
    have hD : va_D A (((cH k ah aw adr aim ard asc ath awl alo atr sh) ++ ((cW k aw sw) ++ ((cW k ath sth) ++ (cS k asc ssc)))) ++ P) := hD
    exact zout hnoh hlocks hce hcv hcl hP hD hS ⟨_, _, rfl, rfl⟩ (Nat.le_of_ble_eq_true rfl) (Nat.le_of_ble_eq_true rfl)
  obtain ⟨rfl, rfl, rfl⟩ := hq
  have hrun := moxr hrun
  have hP : va_P D zCl (((cH k ah aw adr aim ard asc ath awl alo atr sh) ++ ((cW k aw sw) ++ ((cW k ath sth) ++ (cS k asc ssc)))) ++ P) _ := hP
  have hD : va_D A (((cH k ah aw adr aim ard asc ath awl alo atr sh) ++ ((cW k aw sw) ++ ((cW k ath sth) ++ (cS k asc ssc)))) ++ P) := hD
  refine lv_iload_n hx hb dX1_ahead_5 rfl (lv_at hl 2 rfl) ?_
  refine lv_iconst (v := (0 : Int32)) hx hb dX1_ahead_6 (by decide) ?_
  refine lv_sipush (v := (400 : Int32)) hx hb dX1_ahead_7 (by decide) ?_
  obtain ⟨r_5, hc_4, hrun⟩ := mob_s rfl hrun
  refine cRS (ws := []) (As := [.int p2, .int (0 : Int32), .int (400 : Int32)]) ⟨hx, hb, hml, hown, hts⟩ hOK hz hS zP0 (mtX1_in l D Z hOK _ _ _ _ hc_4) (kX1_in hts q647 rfl rfl ⟨Nat.le_of_ble_eq_true rfl, Nat.le_of_ble_eq_true rfl⟩) rfl hl.1 rfl (lv_room (Nat.le_of_ble_eq_true rfl)) ⟨Nat.le_of_ble_eq_true rfl, Nat.le_of_ble_eq_true rfl⟩ dX1_ahead_10 ?_
  obtain ⟨o_7, hc_6, hrun⟩ := mox_s rfl hrun
  have hP : va_P D zCl ([] ++ ([] ++ (((cH k ah aw adr aim ard asc ath awl alo atr sh) ++ ((cW k aw sw) ++ ((cW k ath sth) ++ (cS k asc ssc)))) ++ P))) _ := hP
  have hD : va_D A ([] ++ ([] ++ (((cH k ah aw adr aim ard asc ath awl alo atr sh) ++ ((cW k aw sw) ++ ((cW k ath sth) ++ (cS k asc ssc)))) ++ P))) := hD
  refine cXS [] [] (((cH k ah aw adr aim ard asc ath awl alo atr sh) ++ ((cW k aw sw) ++ ((cW k ath sth) ++ (cS k asc ssc)))) ++ P) (As := [.int (bz r_5)]) ⟨hx, hb, hml, hown, hts⟩ hOK hz hS hA hP hD (mtX1_demand l D Z hOK hlt hTh _ o_7 hc_6) (kX1_demand hts q1627 rfl rfl ⟨Nat.le_of_ble_eq_true rfl, Nat.le_of_ble_eq_true rfl⟩) rfl hl.1 rfl (lv_room (Nat.le_of_ble_eq_true rfl)) ⟨Nat.le_of_ble_eq_true rfl, Nat.le_of_ble_eq_true rfl⟩ dX1_ahead_13 (fun E_ w_ ce_ q9_ H locs hq hP hD hS hce hcv hcl => ?_) (fun r_ w_ H locs hq hP hD hS => ?_)
  · obtain ⟨rfl, rfl⟩ := hq
    have hrun := moxl hrun
    cases hrun
    have hP : va_P D zCl (((cH k ah aw adr aim ard asc ath awl alo atr sh) ++ ((cW k aw sw) ++ ((cW k ath sth) ++ (cS k asc ssc)))) ++ P) _ := hP
    have hD : va_D A (((cH k ah aw adr aim ard asc ath awl alo atr sh) ++ ((cW k aw sw) ++ ((cW k ath sth) ++ (cS k asc ssc)))) ++ P) := hD
    exact zout hnoh hlocks hce hcv hcl hP hD hS ⟨_, _, rfl, rfl⟩ (Nat.le_of_ble_eq_true rfl) (Nat.le_of_ble_eq_true rfl)
  obtain ⟨rfl, rfl, rfl⟩ := hq
  have hrun := moxr hrun
  have hP : va_P D zCl (((cH k ah aw adr aim ard asc ath awl alo atr sh) ++ ((cW k aw sw) ++ ((cW k ath sth) ++ (cS k asc ssc)))) ++ P) _ := hP
  have hD : va_D A (((cH k ah aw adr aim ard asc ath awl alo atr sh) ++ ((cW k aw sw) ++ ((cW k ath sth) ++ (cS k asc ssc)))) ++ P) := hD
  refine lv_iload_n hx hb dX1_ahead_16 rfl (lv_at hl 3 rfl) ?_
  refine lv_iconst (v := (2 : Int32)) hx hb dX1_ahead_17 (by decide) ?_
  obtain ⟨o_10, hc_9, hrun⟩ := mox_s rfl hrun
  have hP : va_P D zCl ([] ++ ([] ++ (((cH k ah aw adr aim ard asc ath awl alo atr sh) ++ ((cW k aw sw) ++ ((cW k ath sth) ++ (cS k asc ssc)))) ++ P))) _ := hP
  have hD : va_D A ([] ++ ([] ++ (((cH k ah aw adr aim ard asc ath awl alo atr sh) ++ ((cW k aw sw) ++ ((cW k ath sth) ++ (cS k asc ssc)))) ++ P))) := hD
  refine cXS [] [] (((cH k ah aw adr aim ard asc ath awl alo atr sh) ++ ((cW k aw sw) ++ ((cW k ath sth) ++ (cS k asc ssc)))) ++ P) (As := [.int p3, .int (2 : Int32)]) ⟨hx, hb, hml, hown, hts⟩ hOK hz hS hA hP hD (mtX1_question l D Z hOK hlt hTh _ _ o_10 hc_9) (kX1_question hts q1574 rfl rfl ⟨Nat.le_of_ble_eq_true rfl, Nat.le_of_ble_eq_true rfl⟩) rfl hl.1 rfl (lv_room (Nat.le_of_ble_eq_true rfl)) ⟨Nat.le_of_ble_eq_true rfl, Nat.le_of_ble_eq_true rfl⟩ dX1_ahead_18 (fun E_ w_ ce_ q9_ H locs hq hP hD hS hce hcv hcl => ?_) (fun r_ w_ H locs hq hP hD hS => ?_)
  · obtain ⟨rfl, rfl⟩ := hq
    have hrun := moxl hrun
    cases hrun
    have hP : va_P D zCl (((cH k ah aw adr aim ard asc ath awl alo atr sh) ++ ((cW k aw sw) ++ ((cW k ath sth) ++ (cS k asc ssc)))) ++ P) _ := hP
    have hD : va_D A (((cH k ah aw adr aim ard asc ath awl alo atr sh) ++ ((cW k aw sw) ++ ((cW k ath sth) ++ (cS k asc ssc)))) ++ P) := hD
    exact zout hnoh hlocks hce hcv hcl hP hD hS ⟨_, _, rfl, rfl⟩ (Nat.le_of_ble_eq_true rfl) (Nat.le_of_ble_eq_true rfl)
  obtain ⟨rfl, rfl, rfl⟩ := hq
  have hrun := moxr hrun
  have hP : va_P D zCl (((cH k ah aw adr aim ard asc ath awl alo atr sh) ++ ((cW k aw sw) ++ ((cW k ath sth) ++ (cS k asc ssc)))) ++ P) _ := hP
  have hD : va_D A (((cH k ah aw adr aim ard asc ath awl alo atr sh) ++ ((cW k aw sw) ++ ((cW k ath sth) ++ (cS k asc ssc)))) ++ P) := hD
  refine lv_aload_n hx hb dX1_ahead_21 rfl (lv_at hl 0 rfl) ?_
  refine lv_iload_n hx hb dX1_ahead_22 rfl (lv_at hl 2 rfl) ?_
  obtain ⟨⟨sth_13, ssc_14⟩, hc_12, hrun⟩ := mob_s rfl hrun
  have hP : va_P D zCl ([] ++ (((cH k ah aw adr aim ard asc ath awl alo atr sh) ++ ((cW k aw sw) ++ ((cW k ath sth) ++ (cS k asc ssc)))) ++ P)) _ := hP
  have hD : va_D A ([] ++ (((cH k ah aw adr aim ard asc ath awl alo atr sh) ++ ((cW k aw sw) ++ ((cW k ath sth) ++ (cS k asc ssc)))) ++ P)) := hD
  refine cWVP [] (((cH k ah aw adr aim ard asc ath awl alo atr sh) ++ ((cW k aw sw) ++ ((cW k ath sth) ++ (cS k asc ssc)))) ++ P) (As := [.int p2]) (ci := 1) ⟨hx, hb, hml, hown, hts⟩ hOK hz hS hA hP hD (mtX1_worldAt l D k ah aw adr aim ard asc ath awl alo atr Z hOK hFa hFw P Sm hPl _ _ _ _ _ _ _ hc_12) (kX1_worldAt hts q1728 rfl rfl ⟨Nat.le_of_ble_eq_true rfl, Nat.le_of_ble_eq_true rfl⟩) 0 rfl rfl rfl hl.1 rfl (lv_room (Nat.le_of_ble_eq_true rfl)) ⟨Nat.le_of_ble_eq_true rfl, Nat.le_of_ble_eq_true rfl⟩ dX1_ahead_23 (fun r_ w_ H locs hq hP hD hS => ?_)
  obtain ⟨rfl, rfl⟩ := hq
  have hP : va_P D zCl (((cH k ah aw adr aim ard asc ath awl alo atr sh) ++ ((cW k aw sw) ++ ((cW k ath sth_13) ++ (cS k asc ssc_14)))) ++ P) _ := hP
  have hD : va_D A (((cH k ah aw adr aim ard asc ath awl alo atr sh) ++ ((cW k aw sw) ++ ((cW k ath sth_13) ++ (cS k asc ssc_14)))) ++ P) := hD
  refine lv_astore (lv' := [(4, .ref (ath 0)), (0, .ref (ah 0)), (1, .int p1), (2, .int p2), (3, .int p3)]) hx hb dX1_ahead_26 hl (by decide) rfl (fun ls hl => ?_)
  refine lv_iload_n hx hb dX1_ahead_28 rfl (lv_at hl 4 rfl) ?_
  refine lv_if_ne (tgt := 42) hx hb dX1_ahead_29 (by decide) (fun c_16 => ?_) (fun c_16 => ?_)
  · have hrun := mif_n c_16 hrun
    refine lv_iload_n hx hb dX1_ahead_42 rfl (lv_at hl 4 rfl) ?_
    refine lv_iconst (v := (1 : Int32)) hx hb dX1_ahead_43 (by decide) ?_
    refine lv_icmp_ne (tgt := 55) hx hb dX1_ahead_44 (by decide) (fun c_17 => ?_) (fun c_17 => ?_)
    · have hrun := mif_n c_17 hrun
      refine lv_aload hx hb dX1_ahead_55 (lv_at hl 0 rfl) ?_
      refine va_getN (ci := 2) (v := .int (wd_stones sth_13)) (C := RX2) (T := TX2) (N := 21) hx hb hts in_X2 hown hK hP 10 rfl rfl 6 (by decide) (va_Nw.use rfl (hN _ (zN_of q177 rfl))) (fun _ h9 => h9) rfl dX1_ahead_57 ?_
      cases hrun
      refine W.widen (k := 3) (n := 18) (Nat.le_of_ble_eq_true rfl) (Nat.le_of_ble_eq_true rfl) ?_
      exact vx_ret (retW_i hx hb hr hlocks hP hD hS ⟨_, _, _, rfl, rfl, rfl⟩ dX1_ahead_60)
    have hrun := mif_p c_17 hrun
    refine lv_aload hx hb dX1_ahead_47 (lv_at hl 0 rfl) ?_
    refine va_getN (ci := 2) (v := .int (wd_towers sth_13)) (C := RX2) (T := TX2) (N := 21) hx hb hts in_X2 hown hK hP 10 rfl rfl 7 (by decide) (va_Nw.use rfl (hN _ (zN_of q179 rfl))) (fun _ h9 => h9) rfl dX1_ahead_49 ?_
    refine lv_goto (tgt := 60) hx hb dX1_ahead_52 (by decide) ?_
    cases hrun
    refine W.widen (k := 3) (n := 18) (Nat.le_of_ble_eq_true rfl) (Nat.le_of_ble_eq_true rfl) ?_
    exact vx_ret (retW_i hx hb hr hlocks hP hD hS ⟨_, _, _, rfl, rfl, rfl⟩ dX1_ahead_60)
  have hrun := mif_p c_16 hrun
  refine lv_aload hx hb dX1_ahead_32 (lv_at hl 0 rfl) ?_
  refine va_getN (ci := 2) (v := .ref (ath 4)) (C := RX2) (T := TX2) (N := 21) hx hb hts in_X2 hown hK hP 10 rfl rfl 15 (by decide) (va_Nw.use rfl (hN _ (zN_of q196 rfl))) (fun _ h9 => h9) rfl dX1_ahead_34 ?_
  refine lv_iload_n hx hb dX1_ahead_37 rfl (lv_at hl 2 rfl) ?_
  obtain ⟨hb_18, hrun⟩ := mck_s rfl hrun
  refine va_iald hx hb hK hP 14 0 rfl rfl hb_18 dX1_ahead_38 ?_
  refine lv_goto (tgt := 60) hx hb dX1_ahead_39 (by decide) ?_
  cases hrun
  refine W.widen (k := 3) (n := 18) (Nat.le_of_ble_eq_true rfl) (Nat.le_of_ble_eq_true rfl) ?_
  exact vx_ret (retW_i hx hb hr hlocks hP hD hS ⟨_, _, _, rfl, rfl, rfl⟩ dX1_ahead_60)
def rX1_first : Room := { frames := 31, cells := 2, slots := 12, locals := 1067 }
noncomputable def fX1_first_L29 (p1 : Int32) (p2 : Int32) (Sm : zSem) (sh : Kp) : Nat → Int32 → Wd → Sc → Option ((String × Wd × Sc) ⊕ (Int32 × Wd × Sc))
  | 0, _, _, _ => none
  | n + 1, x3_12, sth_13, ssc_14 =>
    if (400 : Int32) < x3_12 then
      some (.inr ((-1 : Int32), (sth_13, ssc_14)))
    else
      mck p1 8 <|
      if ((wd_doubt sth_13) (Int32.toNatClampNeg p1)) < p2 then
        mob (fX1_oneAhead Sm sh sth_13 ssc_14) fun q_21 =>
        fX1_first_L29 p1 p2 Sm sh n (x3_12 + (1 : Int32)) (q_21.1) (q_21.2)
      else
        some (.inr (x3_12, (sth_13, ssc_14)))
noncomputable def fX1_first (Sm : zSem) (sh : Kp) (sw : Wd) (sth : Wd) (ssc : Sc) (p1 : Int32) (p2 : Int32) : Option ((String × Wd × Sc) ⊕ (Int32 × Wd × Sc)) :=
  mox (fX1_guestAt sh sw p1) (fun E_3 => some (.inl (E_3, (sth, ssc)))) fun _ =>
  mob (fX1_in p2 (1 : Int32) (99 : Int32)) fun r_5 =>
  mox (fX1_demand r_5) (fun E_8 => some (.inl (E_8, (sth, ssc)))) fun _ =>
  mob (fX2_likens sth sw) fun sth_10 =>
  fX1_first_L29 p1 p2 Sm sh mFU (0 : Int32) sth_10 ssc
theorem kX1_first {R : Room} {s : State} {args : Array Value} {own : String} {idx mc ms : Nat} {rm : Room} (hts : ∀ w ∈ lw_all, w.before args s = true) (hl : Cond.methodLink own idx yX1_first ∈ lw_all) (hrc : rm.cells = mc) (hrs : rm.slots = ms) (hR : rm.frames + 1 ≤ R.frames ∧ 8 + (4 + 11) + rm.locals ≤ R.locals) : CallW R s args own RX1 idx yX1_first cX1_first 4 (some .int) (ws_ yX1_first cX1_first 4 (some .int)) rm mc ms 2 :=
  cwV 2 hts (lw_V hl q1743 q1744 q107 q1745) rfl hrc hrs (by decide +kernel) hR
set_option maxHeartbeats 4000000 in
set_option maxRecDepth 100000 in
theorem mtX1_first (l : Launch) (D : va_G) (k : Nat → ClassId) (ah : Nat → Nat) (aw : Nat → Nat) (adr : Nat → Nat) (aim : Nat → Nat) (ard : Nat → Nat) (asc : Nat → Nat) (ath : Nat → Nat) (awl : Nat → Nat) (alo : Nat → Nat) (atr : Nat → Nat) (Z : zZ) (hOK : zOK D zCl (zTys k) Z) (hlt : l.stackTraces = false) (hTh : zTh Z) {e0 : Nat} {aF : Nat → Nat} (hFa : zFa Z aF) (hFw : zFw Z) (P : va_W) (Sm : zSem) (hPl : zPl k e0 aF P Sm) (sh : Kp) (sw : Wd) (sth : Wd) (ssc : Sc) (p1 : Int32) (p2 : Int32) (o : (String × Wd × Sc) ⊕ (Int32 × Wd × Sc)) (hrun : fX1_first Sm sh sw sth ssc p1 p2 = some o) :
    CtX l yX1_first cX1_first 4 (some .int) rX1_first Z D zCl (((cH k ah aw adr aim ard asc ath awl alo atr sh) ++ ((cW k aw sw) ++ ((cW k ath sth) ++ (cS k asc ssc)))) ++ P) [.ref (ah 0), .int p1, .int p2] (fun r' w' => ∃ (r : Int32) (oth : Wd) (osc : Sc), o = .inr (r, (oth, osc)) ∧ r' = (some (.int r)) ∧ w' = (((cH k ah aw adr aim ard asc ath awl alo atr sh) ++ ((cW k aw sw) ++ ((cW k ath oth) ++ (cS k asc osc)))) ++ P)) (fun E' w' => ∃ (oth : Wd) (osc : Sc), o = .inl (E', (oth, osc)) ∧ w' = (((cH k ah aw adr aim ard asc ath awl alo atr sh) ++ ((cW k aw sw) ++ ((cW k ath oth) ++ (cS k asc osc)))) ++ P)) 2 12 := by
  refine CtX.of (by decide) (Nat.le_of_ble_eq_true rfl) ?_
  intro p e s m args below meth c A hE hnoh hA hP hD hS hz ls hl
  obtain ⟨hx, hb, hr, hml, hown, hts, hlocks, hname⟩ := hE
  have hown : s.vm.findClass RX1 = some m.cls := hown
  have hK := hOK.1 _ _ _ hz
  have hN := hOK.2.1 _ _ _ hz
  have hl : lv_has ls 4 [(0, .ref (ah 0)), (1, .int p1), (2, .int p2)] := hl
  unfold fX1_first at hrun
  refine lv_aload_n hx hb dX1_first_0 rfl (lv_at hl 0 rfl) ?_
  refine lv_iload_n hx hb dX1_first_1 rfl (lv_at hl 1 rfl) ?_
  obtain ⟨o_2, hc_1, hrun⟩ := mox_s rfl hrun
  have hP : va_P D zCl ([] ++ (((cH k ah aw adr aim ard asc ath awl alo atr sh) ++ (cW k aw sw)) ++ (((cW k ath sth) ++ (cS k asc ssc)) ++ P))) _ := hP
  have hD : va_D A ([] ++ (((cH k ah aw adr aim ard asc ath awl alo atr sh) ++ (cW k aw sw)) ++ (((cW k ath sth) ++ (cS k asc ssc)) ++ P))) := hD
  refine cXV [] ((cH k ah aw adr aim ard asc ath awl alo atr sh) ++ (cW k aw sw)) (((cW k ath sth) ++ (cS k asc ssc)) ++ P) (As := [.int p1]) (ci := 1) ⟨hx, hb, hml, hown, hts⟩ hOK hz hS hA hP hD (mtX1_guestAt l D k ah aw adr aim ard asc ath awl alo atr Z hOK hlt hTh _ _ _ o_2 hc_1) (kX1_guestAt hts q1552 rfl rfl ⟨Nat.le_of_ble_eq_true rfl, Nat.le_of_ble_eq_true rfl⟩) 0 rfl rfl rfl hl.1 rfl (lv_room (Nat.le_of_ble_eq_true rfl)) ⟨Nat.le_of_ble_eq_true rfl, Nat.le_of_ble_eq_true rfl⟩ dX1_first_2 (fun E_ w_ ce_ q9_ H locs hq hP hD hS hce hcv hcl => ?_) (fun r_ w_ H locs hq hP hD hS => ?_)
  · obtain ⟨rfl, rfl⟩ := hq
    have hrun := moxl hrun
    cases hrun
    have hP : va_P D zCl (((cH k ah aw adr aim ard asc ath awl alo atr sh) ++ ((cW k aw sw) ++ ((cW k ath sth) ++ (cS k asc ssc)))) ++ P) _ := hP
    have hD : va_D A (((cH k ah aw adr aim ard asc ath awl alo atr sh) ++ ((cW k aw sw) ++ ((cW k ath sth) ++ (cS k asc ssc)))) ++ P) := hD
    exact zout hnoh hlocks hce hcv hcl hP hD hS ⟨_, _, rfl, rfl⟩ (Nat.le_of_ble_eq_true rfl) (Nat.le_of_ble_eq_true rfl)
  obtain ⟨rfl, rfl, rfl⟩ := hq
  have hrun := moxr hrun
  have hP : va_P D zCl (((cH k ah aw adr aim ard asc ath awl alo atr sh) ++ ((cW k aw sw) ++ ((cW k ath sth) ++ (cS k asc ssc)))) ++ P) _ := hP
  have hD : va_D A (((cH k ah aw adr aim ard asc ath awl alo atr sh) ++ ((cW k aw sw) ++ ((cW k ath sth) ++ (cS k asc ssc)))) ++ P) := hD
  refine lv_iload_n hx hb dX1_first_5 rfl (lv_at hl 2 rfl) ?_
  refine lv_iconst (v := (1 : Int32)) hx hb dX1_first_6 (by decide) ?_
  refine lv_bipush (v := (99 : Int32)) hx hb dX1_first_7 (by decide) ?_
  obtain ⟨r_5, hc_4, hrun⟩ := mob_s rfl hrun
  refine cRS (ws := []) (As := [.int p2, .int (1 : Int32), .int (99 : Int32)]) ⟨hx, hb, hml, hown, hts⟩ hOK hz hS zP0 (mtX1_in l D Z hOK _ _ _ _ hc_4) (kX1_in hts q647 rfl rfl ⟨Nat.le_of_ble_eq_true rfl, Nat.le_of_ble_eq_true rfl⟩) rfl hl.1 rfl (lv_room (Nat.le_of_ble_eq_true rfl)) ⟨Nat.le_of_ble_eq_true rfl, Nat.le_of_ble_eq_true rfl⟩ dX1_first_9 ?_
  obtain ⟨o_7, hc_6, hrun⟩ := mox_s rfl hrun
  have hP : va_P D zCl ([] ++ ([] ++ (((cH k ah aw adr aim ard asc ath awl alo atr sh) ++ ((cW k aw sw) ++ ((cW k ath sth) ++ (cS k asc ssc)))) ++ P))) _ := hP
  have hD : va_D A ([] ++ ([] ++ (((cH k ah aw adr aim ard asc ath awl alo atr sh) ++ ((cW k aw sw) ++ ((cW k ath sth) ++ (cS k asc ssc)))) ++ P))) := hD
  refine cXS [] [] (((cH k ah aw adr aim ard asc ath awl alo atr sh) ++ ((cW k aw sw) ++ ((cW k ath sth) ++ (cS k asc ssc)))) ++ P) (As := [.int (bz r_5)]) ⟨hx, hb, hml, hown, hts⟩ hOK hz hS hA hP hD (mtX1_demand l D Z hOK hlt hTh _ o_7 hc_6) (kX1_demand hts q1627 rfl rfl ⟨Nat.le_of_ble_eq_true rfl, Nat.le_of_ble_eq_true rfl⟩) rfl hl.1 rfl (lv_room (Nat.le_of_ble_eq_true rfl)) ⟨Nat.le_of_ble_eq_true rfl, Nat.le_of_ble_eq_true rfl⟩ dX1_first_12 (fun E_ w_ ce_ q9_ H locs hq hP hD hS hce hcv hcl => ?_) (fun r_ w_ H locs hq hP hD hS => ?_)
  · obtain ⟨rfl, rfl⟩ := hq
    have hrun := moxl hrun
    cases hrun
    have hP : va_P D zCl (((cH k ah aw adr aim ard asc ath awl alo atr sh) ++ ((cW k aw sw) ++ ((cW k ath sth) ++ (cS k asc ssc)))) ++ P) _ := hP
    have hD : va_D A (((cH k ah aw adr aim ard asc ath awl alo atr sh) ++ ((cW k aw sw) ++ ((cW k ath sth) ++ (cS k asc ssc)))) ++ P) := hD
    exact zout hnoh hlocks hce hcv hcl hP hD hS ⟨_, _, rfl, rfl⟩ (Nat.le_of_ble_eq_true rfl) (Nat.le_of_ble_eq_true rfl)
  obtain ⟨rfl, rfl, rfl⟩ := hq
  have hrun := moxr hrun
  have hP : va_P D zCl (((cH k ah aw adr aim ard asc ath awl alo atr sh) ++ ((cW k aw sw) ++ ((cW k ath sth) ++ (cS k asc ssc)))) ++ P) _ := hP
  have hD : va_D A (((cH k ah aw adr aim ard asc ath awl alo atr sh) ++ ((cW k aw sw) ++ ((cW k ath sth) ++ (cS k asc ssc)))) ++ P) := hD
  refine lv_aload_n hx hb dX1_first_15 rfl (lv_at hl 0 rfl) ?_
  refine va_get (ci := 1) (v := .ref (ath 0)) (C := RX1) (T := TX1) (N := 10) hx hb hts in_X1 hown hK hP 0 rfl rfl 6 (by decide) (hts _ q377) (fun _ h9 => h9) rfl dX1_first_16 ?_
  refine lv_aload_n hx hb dX1_first_19 rfl (lv_at hl 0 rfl) ?_
  refine va_get (ci := 1) (v := .ref (aw 0)) (C := RX1) (T := TX1) (N := 10) hx hb hts in_X1 hown hK hP 0 rfl rfl 0 (by decide) (hts _ q370) (fun _ h9 => h9) rfl dX1_first_20 ?_
  obtain ⟨sth_10, hc_9, hrun⟩ := mob_s rfl hrun
  have hP := zsubT (w' := ((cW k ath sth) ++ (cW k aw sw)) ++ ((cH k ah aw adr aim ard asc ath awl alo atr sh) ++ (cS k asc ssc))) hP [10, 11, 12, 13, 14, 15, 16, 17, 18, 1, 2, 3, 4, 5, 6, 7, 8, 9, 0, 19] rfl
  have hD := zsubTD (w' := ((cW k ath sth) ++ (cW k aw sw)) ++ ((cH k ah aw adr aim ard asc ath awl alo atr sh) ++ (cS k asc ssc))) hD [10, 11, 12, 13, 14, 15, 16, 17, 18, 1, 2, 3, 4, 5, 6, 7, 8, 9, 0, 19] (by decide) rfl
  have hP : va_P D zCl ([] ++ (((cW k ath sth) ++ (cW k aw sw)) ++ (((cH k ah aw adr aim ard asc ath awl alo atr sh) ++ (cS k asc ssc)) ++ P))) _ := hP
  have hD : va_D A ([] ++ (((cW k ath sth) ++ (cW k aw sw)) ++ (((cH k ah aw adr aim ard asc ath awl alo atr sh) ++ (cS k asc ssc)) ++ P))) := hD
  refine cWV [] ((cW k ath sth) ++ (cW k aw sw)) (((cH k ah aw adr aim ard asc ath awl alo atr sh) ++ (cS k asc ssc)) ++ P) (As := [.ref (aw 0)]) (ci := 2) ⟨hx, hb, hml, hown, hts⟩ hOK hz hS hA hP hD (mtX2_likens l D k ath aw Z hOK _ _ _ hc_9) (kX2_likens hts q434 rfl rfl ⟨Nat.le_of_ble_eq_true rfl, Nat.le_of_ble_eq_true rfl⟩) 0 rfl rfl rfl hl.1 rfl (lv_room (Nat.le_of_ble_eq_true rfl)) ⟨Nat.le_of_ble_eq_true rfl, Nat.le_of_ble_eq_true rfl⟩ dX1_first_23 (fun r_ w_ H locs hq hP hD hS => ?_)
  obtain ⟨rfl, rfl⟩ := hq
  have hP : va_P D zCl (((cW k ath sth_10) ++ ((cW k aw sw) ++ ((cH k ah aw adr aim ard asc ath awl alo atr sh) ++ (cS k asc ssc)))) ++ P) _ := hP
  have hD : va_D A (((cW k ath sth_10) ++ ((cW k aw sw) ++ ((cH k ah aw adr aim ard asc ath awl alo atr sh) ++ (cS k asc ssc)))) ++ P) := hD
  have hP := zsubT (w' := ((cH k ah aw adr aim ard asc ath awl alo atr sh) ++ ((cW k aw sw) ++ ((cW k ath sth_10) ++ (cS k asc ssc))))) hP [18, 9, 10, 11, 12, 13, 14, 15, 16, 17, 0, 1, 2, 3, 4, 5, 6, 7, 8, 19] rfl
  have hD := zsubTD (w' := ((cH k ah aw adr aim ard asc ath awl alo atr sh) ++ ((cW k aw sw) ++ ((cW k ath sth_10) ++ (cS k asc ssc))))) hD [18, 9, 10, 11, 12, 13, 14, 15, 16, 17, 0, 1, 2, 3, 4, 5, 6, 7, 8, 19] (by decide) rfl
  refine lv_pop hx hb dX1_first_26 rfl ?_
  refine lv_iconst (v := (0 : Int32)) hx hb dX1_first_27 (by decide) ?_
  refine lv_istore_n (lv' := [(3, .int (0 : Int32)), (0, .ref (ah 0)), (1, .int p1), (2, .int p2)]) hx hb dX1_first_28 rfl hl (by decide) rfl (fun ls hl => ?_)
  have hL_11 : ∀ n : Nat, ∀ (x3_12 : Int32) (sth_13 : Wd) (ssc_14 : Sc), ∀ (H : Heap) (locs : List Loc), va_P D zCl (((cH k ah aw adr aim ard asc ath awl alo atr sh) ++ ((cW k aw sw) ++ ((cW k ath sth_13) ++ (cS k asc ssc_14)))) ++ P) H → va_D A (((cH k ah aw adr aim ard asc ath awl alo atr sh) ++ ((cW k aw sw) ++ ((cW k ath sth_13) ++ (cS k asc ssc_14)))) ++ P) → va_S A s.heap H locs → ∀ ls : Array Slot, lv_has ls 4 [(0, .ref (ah 0)), (1, .int p1), (2, .int p2), (3, .int x3_12)] → fX1_first_L29 p1 p2 Sm sh n x3_12 sth_13 ssc_14 = some o → W p l e rX1_first s m args below meth c H locs 2 12 (vx_MQ below (QWr (fun r' w' => ∃ (r : Int32) (oth : Wd) (osc : Sc), o = .inr (r, (oth, osc)) ∧ r' = (some (.int r)) ∧ w' = (((cH k ah aw adr aim ard asc ath awl alo atr sh) ++ ((cW k aw sw) ++ ((cW k ath oth) ++ (cS k asc osc)))) ++ P)) D zCl A) (QXr (fun E' w' => ∃ (oth : Wd) (osc : Sc), o = .inl (E', (oth, osc)) ∧ w' = (((cH k ah aw adr aim ard asc ath awl alo atr sh) ++ ((cW k aw sw) ++ ((cW k ath oth) ++ (cS k asc osc)))) ++ P)) D zCl A) args s 2 12 A) (F0 m 29 ls []) := by
    intro n
    induction n with
    | zero =>
      intro x3_12 sth_13 ssc_14 H locs hP hD hS ls hl hrun
      exact nomatch hrun
    | succ n ih =>
      intro x3_12 sth_13 ssc_14 H locs hP hD hS ls hl hrun
      rw [fX1_first_L29.eq_2] at hrun
      refine lv_iload_n hx hb dX1_first_29 rfl (lv_at hl 3 rfl) ?_
      refine lv_sipush (v := (400 : Int32)) hx hb dX1_first_30 (by decide) ?_
      refine lv_icmp_gt (tgt := 61) hx hb dX1_first_33 (by decide) (fun c_15 => ?_) (fun c_15 => ?_)
      · have hrun := mif_p c_15 hrun
        refine lv_iconst (v := (-1 : Int32)) hx hb dX1_first_61 (by decide) ?_
        cases hrun
        refine W.widen (k := 2) (n := 12) (Nat.le_of_ble_eq_true rfl) (Nat.le_of_ble_eq_true rfl) ?_
        exact vx_ret (retW_i hx hb hr hlocks hP hD hS ⟨_, _, _, rfl, rfl, rfl⟩ dX1_first_62)
      have hrun := mif_n c_15 hrun
      refine lv_aload_n hx hb dX1_first_36 rfl (lv_at hl 0 rfl) ?_
      refine va_get (ci := 1) (v := .ref (ath 0)) (C := RX1) (T := TX1) (N := 10) hx hb hts in_X1 hown hK hP 0 rfl rfl 6 (by decide) (hts _ q377) (fun _ h9 => h9) rfl dX1_first_37 ?_
      refine va_getN (ci := 2) (v := .ref (ath 4)) (C := RX2) (T := TX2) (N := 21) hx hb hts in_X2 hown hK hP 10 rfl rfl 15 (by decide) (va_Nw.use rfl (hN _ (zN_of q196 rfl))) (fun _ h9 => h9) rfl dX1_first_40 ?_
      refine lv_iload_n hx hb dX1_first_43 rfl (lv_at hl 1 rfl) ?_
      obtain ⟨hb_16, hrun⟩ := mck_s rfl hrun
      refine va_iald hx hb hK hP 14 0 rfl rfl hb_16 dX1_first_44 ?_
      refine lv_iload_n hx hb dX1_first_45 rfl (lv_at hl 2 rfl) ?_
      refine lv_icmp_lt (tgt := 51) hx hb dX1_first_46 (by decide) (fun c_17 => ?_) (fun c_17 => ?_)
      · have hrun := mif_p c_17 hrun
        refine lv_aload_n hx hb dX1_first_51 rfl (lv_at hl 0 rfl) ?_
        obtain ⟨⟨sth_19, ssc_20⟩, hc_18, hrun⟩ := mob_s rfl hrun
        have hP := zsubT (w' := (cW k aw sw) ++ ((cH k ah aw adr aim ard asc ath awl alo atr sh) ++ ((cW k ath sth_13) ++ (cS k asc ssc_14)))) hP [1, 2, 3, 4, 5, 6, 7, 8, 9, 0, 10, 11, 12, 13, 14, 15, 16, 17, 18, 19] rfl
        have hD := zsubTD (w' := (cW k aw sw) ++ ((cH k ah aw adr aim ard asc ath awl alo atr sh) ++ ((cW k ath sth_13) ++ (cS k asc ssc_14)))) hD [1, 2, 3, 4, 5, 6, 7, 8, 9, 0, 10, 11, 12, 13, 14, 15, 16, 17, 18, 19] (by decide) rfl
        have hP : va_P D zCl ((cW k aw sw) ++ (((cH k ah aw adr aim ard asc ath awl alo atr sh) ++ ((cW k ath sth_13) ++ (cS k asc ssc_14))) ++ P)) _ := hP
        have hD : va_D A ((cW k aw sw) ++ (((cH k ah aw adr aim ard asc ath awl alo atr sh) ++ ((cW k ath sth_13) ++ (cS k asc ssc_14))) ++ P)) := hD
        refine cWVP (cW k aw sw) (((cH k ah aw adr aim ard asc ath awl alo atr sh) ++ ((cW k ath sth_13) ++ (cS k asc ssc_14))) ++ P) (As := []) (ci := 1) ⟨hx, hb, hml, hown, hts⟩ hOK hz hS hA hP hD (mtX1_oneAhead l D k ah aw adr aim ard asc ath awl alo atr Z hOK hFa hFw P Sm hPl _ _ _ _ _ hc_18) (kX1_oneAhead hts q444 rfl rfl ⟨Nat.le_of_ble_eq_true rfl, Nat.le_of_ble_eq_true rfl⟩) 0 rfl rfl rfl hl.1 rfl (lv_room (Nat.le_of_ble_eq_true rfl)) ⟨Nat.le_of_ble_eq_true rfl, Nat.le_of_ble_eq_true rfl⟩ dX1_first_52 (fun r_ w_ H locs hq hP hD hS => ?_)
        obtain ⟨rfl, rfl⟩ := hq
        have hP : va_P D zCl (((cW k aw sw) ++ ((cH k ah aw adr aim ard asc ath awl alo atr sh) ++ ((cW k ath sth_19) ++ (cS k asc ssc_20)))) ++ P) _ := hP
        have hD : va_D A (((cW k aw sw) ++ ((cH k ah aw adr aim ard asc ath awl alo atr sh) ++ ((cW k ath sth_19) ++ (cS k asc ssc_20)))) ++ P) := hD
        have hP := zsubT (w' := ((cH k ah aw adr aim ard asc ath awl alo atr sh) ++ ((cW k aw sw) ++ ((cW k ath sth_19) ++ (cS k asc ssc_20))))) hP [9, 0, 1, 2, 3, 4, 5, 6, 7, 8, 10, 11, 12, 13, 14, 15, 16, 17, 18, 19] rfl
        have hD := zsubTD (w' := ((cH k ah aw adr aim ard asc ath awl alo atr sh) ++ ((cW k aw sw) ++ ((cW k ath sth_19) ++ (cS k asc ssc_20))))) hD [9, 0, 1, 2, 3, 4, 5, 6, 7, 8, 10, 11, 12, 13, 14, 15, 16, 17, 18, 19] (by decide) rfl
        refine lv_iinc (v := (x3_12 + (1 : Int32))) (lv' := [(3, .int (x3_12 + (1 : Int32))), (0, .ref (ah 0)), (1, .int p1), (2, .int p2)]) hx hb dX1_first_55 hl (k := 3) rfl rfl (by decide) rfl (fun ls hl => ?_)
        refine lv_goto (tgt := 29) hx hb dX1_first_58 (by decide) ?_
        exact ih (x3_12 + (1 : Int32)) sth_19 ssc_20 _ _ hP hD hS ls (lv_sub hl [1, 2, 3, 0] rfl) hrun
      have hrun := mif_n c_17 hrun
      refine lv_iload_n hx hb dX1_first_49 rfl (lv_at hl 3 rfl) ?_
      cases hrun
      refine W.widen (k := 2) (n := 12) (Nat.le_of_ble_eq_true rfl) (Nat.le_of_ble_eq_true rfl) ?_
      exact vx_ret (retW_i hx hb hr hlocks hP hD hS ⟨_, _, _, rfl, rfl, rfl⟩ dX1_first_50)
  exact hL_11 mFU (0 : Int32) sth_10 ssc _ _ hP hD hS ls (lv_sub hl [1, 2, 3, 0] rfl) hrun
def rX1_gone : Room := { frames := 31, cells := 0, slots := 0, locals := 1067 }
noncomputable def fX1_gone_L14 (Sm : zSem) (sh : Kp) : Nat → Int32 → Wd → Sc → Option (Int32 × Wd × Sc)
  | 0, _, _, _ => none
  | n + 1, x1_4, sth_5, ssc_6 =>
    if (400 : Int32) < x1_4 then
      some ((-1 : Int32), (sth_5, ssc_6))
    else
      if (wd_stones sth_5) = (0 : Int32) then
        some (x1_4, (sth_5, ssc_6))
      else
        mob (fX1_oneAhead Sm sh sth_5 ssc_6) fun q_12 =>
        fX1_gone_L14 Sm sh n (x1_4 + (1 : Int32)) (q_12.1) (q_12.2)
noncomputable def fX1_gone (Sm : zSem) (sh : Kp) (sw : Wd) (sth : Wd) (ssc : Sc) : Option (Int32 × Wd × Sc) :=
  mob (fX2_likens sth sw) fun sth_2 =>
  fX1_gone_L14 Sm sh mFU (0 : Int32) sth_2 ssc
theorem kX1_gone {R : Room} {s : State} {args : Array Value} {own : String} {idx mc ms : Nat} {rm : Room} (hts : ∀ w ∈ lw_all, w.before args s = true) (hl : Cond.methodLink own idx yX1_gone ∈ lw_all) (hrc : rm.cells = mc) (hrs : rm.slots = ms) (hR : rm.frames + 1 ≤ R.frames ∧ 8 + (2 + 11) + rm.locals ≤ R.locals) : CallW R s args own RX1 idx yX1_gone cX1_gone 2 (some .int) (ws_ yX1_gone cX1_gone 2 (some .int)) rm mc ms 0 :=
  cwV 0 hts (lw_V hl q431 q432 q107 q433) rfl hrc hrs (by decide +kernel) hR
set_option maxHeartbeats 4000000 in
set_option maxRecDepth 100000 in
theorem mtX1_gone (l : Launch) (D : va_G) (k : Nat → ClassId) (ah : Nat → Nat) (aw : Nat → Nat) (adr : Nat → Nat) (aim : Nat → Nat) (ard : Nat → Nat) (asc : Nat → Nat) (ath : Nat → Nat) (awl : Nat → Nat) (alo : Nat → Nat) (atr : Nat → Nat) (Z : zZ) (hOK : zOK D zCl (zTys k) Z) {e0 : Nat} {aF : Nat → Nat} (hFa : zFa Z aF) (hFw : zFw Z) (P : va_W) (Sm : zSem) (hPl : zPl k e0 aF P Sm) (sh : Kp) (sw : Wd) (sth : Wd) (ssc : Sc) (r : Int32) (oth : Wd) (osc : Sc) (hrun : fX1_gone Sm sh sw sth ssc = some (r, (oth, osc))) :
    CtW l yX1_gone cX1_gone 2 (some .int) rX1_gone Z D zCl (((cH k ah aw adr aim ard asc ath awl alo atr sh) ++ ((cW k aw sw) ++ ((cW k ath sth) ++ (cS k asc ssc)))) ++ P) [.ref (ah 0)] (fun r' w' => r' = (some (.int r)) ∧ w' = (((cH k ah aw adr aim ard asc ath awl alo atr sh) ++ ((cW k aw sw) ++ ((cW k ath oth) ++ (cS k asc osc)))) ++ P)) 0 0 := by
  refine CtW.of (by decide) (Nat.le_of_ble_eq_true rfl) ?_
  intro p e s m args below meth c A hE hA hP hD hS hz ls hl
  obtain ⟨hx, hb, hr, hml, hown, hts, hlocks, hname⟩ := hE
  have hown : s.vm.findClass RX1 = some m.cls := hown
  have hK := hOK.1 _ _ _ hz
  have hN := hOK.2.1 _ _ _ hz
  have hl : lv_has ls 2 [(0, .ref (ah 0))] := hl
  unfold fX1_gone at hrun
  refine lv_aload_n hx hb dX1_gone_0 rfl (lv_at hl 0 rfl) ?_
  refine va_get (ci := 1) (v := .ref (ath 0)) (C := RX1) (T := TX1) (N := 10) hx hb hts in_X1 hown hK hP 0 rfl rfl 6 (by decide) (hts _ q377) (fun _ h9 => h9) rfl dX1_gone_1 ?_
  refine lv_aload_n hx hb dX1_gone_4 rfl (lv_at hl 0 rfl) ?_
  refine va_get (ci := 1) (v := .ref (aw 0)) (C := RX1) (T := TX1) (N := 10) hx hb hts in_X1 hown hK hP 0 rfl rfl 0 (by decide) (hts _ q370) (fun _ h9 => h9) rfl dX1_gone_5 ?_
  obtain ⟨sth_2, hc_1, hrun⟩ := mob_s rfl hrun
  have hP := zsubT (w' := ((cW k ath sth) ++ (cW k aw sw)) ++ ((cH k ah aw adr aim ard asc ath awl alo atr sh) ++ (cS k asc ssc))) hP [10, 11, 12, 13, 14, 15, 16, 17, 18, 1, 2, 3, 4, 5, 6, 7, 8, 9, 0, 19] rfl
  have hD := zsubTD (w' := ((cW k ath sth) ++ (cW k aw sw)) ++ ((cH k ah aw adr aim ard asc ath awl alo atr sh) ++ (cS k asc ssc))) hD [10, 11, 12, 13, 14, 15, 16, 17, 18, 1, 2, 3, 4, 5, 6, 7, 8, 9, 0, 19] (by decide) rfl
  have hP : va_P D zCl ([] ++ (((cW k ath sth) ++ (cW k aw sw)) ++ (((cH k ah aw adr aim ard asc ath awl alo atr sh) ++ (cS k asc ssc)) ++ P))) _ := hP
  have hD : va_D A ([] ++ (((cW k ath sth) ++ (cW k aw sw)) ++ (((cH k ah aw adr aim ard asc ath awl alo atr sh) ++ (cS k asc ssc)) ++ P))) := hD
  refine cWV [] ((cW k ath sth) ++ (cW k aw sw)) (((cH k ah aw adr aim ard asc ath awl alo atr sh) ++ (cS k asc ssc)) ++ P) (As := [.ref (aw 0)]) (ci := 2) ⟨hx, hb, hml, hown, hts⟩ hOK hz hS hA hP hD (mtX2_likens l D k ath aw Z hOK _ _ _ hc_1) (kX2_likens hts q434 rfl rfl ⟨Nat.le_of_ble_eq_true rfl, Nat.le_of_ble_eq_true rfl⟩) 0 rfl rfl rfl hl.1 rfl (lv_room (Nat.le_of_ble_eq_true rfl)) ⟨Nat.le_of_ble_eq_true rfl, Nat.le_of_ble_eq_true rfl⟩ dX1_gone_8 (fun r_ w_ H locs hq hP hD hS => ?_)
  obtain ⟨rfl, rfl⟩ := hq
  have hP : va_P D zCl (((cW k ath sth_2) ++ ((cW k aw sw) ++ ((cH k ah aw adr aim ard asc ath awl alo atr sh) ++ (cS k asc ssc)))) ++ P) _ := hP
  have hD : va_D A (((cW k ath sth_2) ++ ((cW k aw sw) ++ ((cH k ah aw adr aim ard asc ath awl alo atr sh) ++ (cS k asc ssc)))) ++ P) := hD
  have hP := zsubT (w' := ((cH k ah aw adr aim ard asc ath awl alo atr sh) ++ ((cW k aw sw) ++ ((cW k ath sth_2) ++ (cS k asc ssc))))) hP [18, 9, 10, 11, 12, 13, 14, 15, 16, 17, 0, 1, 2, 3, 4, 5, 6, 7, 8, 19] rfl
  have hD := zsubTD (w' := ((cH k ah aw adr aim ard asc ath awl alo atr sh) ++ ((cW k aw sw) ++ ((cW k ath sth_2) ++ (cS k asc ssc))))) hD [18, 9, 10, 11, 12, 13, 14, 15, 16, 17, 0, 1, 2, 3, 4, 5, 6, 7, 8, 19] (by decide) rfl
  refine lv_pop hx hb dX1_gone_11 rfl ?_
  refine lv_iconst (v := (0 : Int32)) hx hb dX1_gone_12 (by decide) ?_
  refine lv_istore_n (lv' := [(1, .int (0 : Int32)), (0, .ref (ah 0))]) hx hb dX1_gone_13 rfl hl (by decide) rfl (fun ls hl => ?_)
  have hL_3 : ∀ n : Nat, ∀ (x1_4 : Int32) (sth_5 : Wd) (ssc_6 : Sc), ∀ (H : Heap) (locs : List Loc), va_P D zCl (((cH k ah aw adr aim ard asc ath awl alo atr sh) ++ ((cW k aw sw) ++ ((cW k ath sth_5) ++ (cS k asc ssc_6)))) ++ P) H → va_D A (((cH k ah aw adr aim ard asc ath awl alo atr sh) ++ ((cW k aw sw) ++ ((cW k ath sth_5) ++ (cS k asc ssc_6)))) ++ P) → va_S A s.heap H locs → ∀ ls : Array Slot, lv_has ls 2 [(0, .ref (ah 0)), (1, .int x1_4)] → fX1_gone_L14 Sm sh n x1_4 sth_5 ssc_6 = some (r, (oth, osc)) → W p l e rX1_gone s m args below meth c H locs 0 0 (MQ below (QWr (fun r' w' => r' = (some (.int r)) ∧ w' = (((cH k ah aw adr aim ard asc ath awl alo atr sh) ++ ((cW k aw sw) ++ ((cW k ath oth) ++ (cS k asc osc)))) ++ P)) D zCl A) args s 0 0 A) (F0 m 14 ls []) := by
    intro n
    induction n with
    | zero =>
      intro x1_4 sth_5 ssc_6 H locs hP hD hS ls hl hrun
      exact nomatch hrun
    | succ n ih =>
      intro x1_4 sth_5 ssc_6 H locs hP hD hS ls hl hrun
      rw [fX1_gone_L14.eq_2] at hrun
      refine lv_iload_n hx hb dX1_gone_14 rfl (lv_at hl 1 rfl) ?_
      refine lv_sipush (v := (400 : Int32)) hx hb dX1_gone_15 (by decide) ?_
      refine lv_icmp_gt (tgt := 43) hx hb dX1_gone_18 (by decide) (fun c_7 => ?_) (fun c_7 => ?_)
      · have hrun := mif_p c_7 hrun
        refine lv_iconst (v := (-1 : Int32)) hx hb dX1_gone_43 (by decide) ?_
        cases hrun
        exact retW_i hx hb hr hlocks hP hD hS ⟨rfl, rfl⟩ dX1_gone_44
      have hrun := mif_n c_7 hrun
      refine lv_aload_n hx hb dX1_gone_21 rfl (lv_at hl 0 rfl) ?_
      refine va_get (ci := 1) (v := .ref (ath 0)) (C := RX1) (T := TX1) (N := 10) hx hb hts in_X1 hown hK hP 0 rfl rfl 6 (by decide) (hts _ q377) (fun _ h9 => h9) rfl dX1_gone_22 ?_
      refine va_getN (ci := 2) (v := .int (wd_stones sth_5)) (C := RX2) (T := TX2) (N := 21) hx hb hts in_X2 hown hK hP 10 rfl rfl 6 (by decide) (va_Nw.use rfl (hN _ (zN_of q177 rfl))) (fun _ h9 => h9) rfl dX1_gone_25 ?_
      refine lv_if_ne (tgt := 33) hx hb dX1_gone_28 (by decide) (fun c_8 => ?_) (fun c_8 => ?_)
      · have hrun := mif_n c_8 hrun
        refine lv_aload_n hx hb dX1_gone_33 rfl (lv_at hl 0 rfl) ?_
        obtain ⟨⟨sth_10, ssc_11⟩, hc_9, hrun⟩ := mob_s rfl hrun
        have hP := zsubT (w' := (cW k aw sw) ++ ((cH k ah aw adr aim ard asc ath awl alo atr sh) ++ ((cW k ath sth_5) ++ (cS k asc ssc_6)))) hP [1, 2, 3, 4, 5, 6, 7, 8, 9, 0, 10, 11, 12, 13, 14, 15, 16, 17, 18, 19] rfl
        have hD := zsubTD (w' := (cW k aw sw) ++ ((cH k ah aw adr aim ard asc ath awl alo atr sh) ++ ((cW k ath sth_5) ++ (cS k asc ssc_6)))) hD [1, 2, 3, 4, 5, 6, 7, 8, 9, 0, 10, 11, 12, 13, 14, 15, 16, 17, 18, 19] (by decide) rfl
        have hP : va_P D zCl ((cW k aw sw) ++ (((cH k ah aw adr aim ard asc ath awl alo atr sh) ++ ((cW k ath sth_5) ++ (cS k asc ssc_6))) ++ P)) _ := hP
        have hD : va_D A ((cW k aw sw) ++ (((cH k ah aw adr aim ard asc ath awl alo atr sh) ++ ((cW k ath sth_5) ++ (cS k asc ssc_6))) ++ P)) := hD
        refine cWVP (cW k aw sw) (((cH k ah aw adr aim ard asc ath awl alo atr sh) ++ ((cW k ath sth_5) ++ (cS k asc ssc_6))) ++ P) (As := []) (ci := 1) ⟨hx, hb, hml, hown, hts⟩ hOK hz hS hA hP hD (mtX1_oneAhead l D k ah aw adr aim ard asc ath awl alo atr Z hOK hFa hFw P Sm hPl _ _ _ _ _ hc_9) (kX1_oneAhead hts q444 rfl rfl ⟨Nat.le_of_ble_eq_true rfl, Nat.le_of_ble_eq_true rfl⟩) 0 rfl rfl rfl hl.1 rfl (lv_room (Nat.le_of_ble_eq_true rfl)) ⟨Nat.le_of_ble_eq_true rfl, Nat.le_of_ble_eq_true rfl⟩ dX1_gone_34 (fun r_ w_ H locs hq hP hD hS => ?_)
        obtain ⟨rfl, rfl⟩ := hq
        have hP : va_P D zCl (((cW k aw sw) ++ ((cH k ah aw adr aim ard asc ath awl alo atr sh) ++ ((cW k ath sth_10) ++ (cS k asc ssc_11)))) ++ P) _ := hP
        have hD : va_D A (((cW k aw sw) ++ ((cH k ah aw adr aim ard asc ath awl alo atr sh) ++ ((cW k ath sth_10) ++ (cS k asc ssc_11)))) ++ P) := hD
        have hP := zsubT (w' := ((cH k ah aw adr aim ard asc ath awl alo atr sh) ++ ((cW k aw sw) ++ ((cW k ath sth_10) ++ (cS k asc ssc_11))))) hP [9, 0, 1, 2, 3, 4, 5, 6, 7, 8, 10, 11, 12, 13, 14, 15, 16, 17, 18, 19] rfl
        have hD := zsubTD (w' := ((cH k ah aw adr aim ard asc ath awl alo atr sh) ++ ((cW k aw sw) ++ ((cW k ath sth_10) ++ (cS k asc ssc_11))))) hD [9, 0, 1, 2, 3, 4, 5, 6, 7, 8, 10, 11, 12, 13, 14, 15, 16, 17, 18, 19] (by decide) rfl
        refine lv_iinc (v := (x1_4 + (1 : Int32))) (lv' := [(1, .int (x1_4 + (1 : Int32))), (0, .ref (ah 0))]) hx hb dX1_gone_37 hl (k := 1) rfl rfl (by decide) rfl (fun ls hl => ?_)
        refine lv_goto (tgt := 14) hx hb dX1_gone_40 (by decide) ?_
        exact ih (x1_4 + (1 : Int32)) sth_10 ssc_11 _ _ hP hD hS ls (lv_sub hl [1, 0] rfl) hrun
      have hrun := mif_p c_8 hrun
      refine lv_iload_n hx hb dX1_gone_31 rfl (lv_at hl 1 rfl) ?_
      cases hrun
      exact retW_i hx hb hr hlocks hP hD hS ⟨rfl, rfl⟩ dX1_gone_32
  exact hL_3 mFU (0 : Int32) sth_2 ssc _ _ hP hD hS ls (lv_sub hl [1, 0] rfl) hrun
def rX1_stand : Room := { frames := 31, cells := 1, slots := 6, locals := 1067 }
noncomputable def fX1_stand_L25 (p1 : Int32) (Sm : zSem) (sh : Kp) : Nat → Int32 → Wd → Sc → Option ((String × Wd × Sc) ⊕ (Int32 × Wd × Sc))
  | 0, _, _, _ => none
  | n + 1, x2_9, sth_10, ssc_11 =>
    if (400 : Int32) < x2_9 then
      some (.inr ((-1 : Int32), (sth_10, ssc_11)))
    else
      if (wd_towers sth_10) < p1 then
        mob (fX1_oneAhead Sm sh sth_10 ssc_11) fun q_17 =>
        fX1_stand_L25 p1 Sm sh n (x2_9 + (1 : Int32)) (q_17.1) (q_17.2)
      else
        some (.inr (x2_9, (sth_10, ssc_11)))
noncomputable def fX1_stand (Sm : zSem) (sh : Kp) (sw : Wd) (sth : Wd) (ssc : Sc) (p1 : Int32) : Option ((String × Wd × Sc) ⊕ (Int32 × Wd × Sc)) :=
  mob (fX1_in p1 (1 : Int32) (9999 : Int32)) fun r_2 =>
  mox (fX1_demand r_2) (fun E_5 => some (.inl (E_5, (sth, ssc)))) fun _ =>
  mob (fX2_likens sth sw) fun sth_7 =>
  fX1_stand_L25 p1 Sm sh mFU (0 : Int32) sth_7 ssc
theorem kX1_stand {R : Room} {s : State} {args : Array Value} {own : String} {idx mc ms : Nat} {rm : Room} (hts : ∀ w ∈ lw_all, w.before args s = true) (hl : Cond.methodLink own idx yX1_stand ∈ lw_all) (hrc : rm.cells = mc) (hrs : rm.slots = ms) (hR : rm.frames + 1 ≤ R.frames ∧ 8 + (3 + 11) + rm.locals ≤ R.locals) : CallW R s args own RX1 idx yX1_stand cX1_stand 3 (some .int) (ws_ yX1_stand cX1_stand 3 (some .int)) rm mc ms 1 :=
  cwV 1 hts (lw_V hl q1750 q1751 q107 q1752) rfl hrc hrs (by decide +kernel) hR
set_option maxHeartbeats 4000000 in
set_option maxRecDepth 100000 in
theorem mtX1_stand (l : Launch) (D : va_G) (k : Nat → ClassId) (ah : Nat → Nat) (aw : Nat → Nat) (adr : Nat → Nat) (aim : Nat → Nat) (ard : Nat → Nat) (asc : Nat → Nat) (ath : Nat → Nat) (awl : Nat → Nat) (alo : Nat → Nat) (atr : Nat → Nat) (Z : zZ) (hOK : zOK D zCl (zTys k) Z) (hlt : l.stackTraces = false) (hTh : zTh Z) {e0 : Nat} {aF : Nat → Nat} (hFa : zFa Z aF) (hFw : zFw Z) (P : va_W) (Sm : zSem) (hPl : zPl k e0 aF P Sm) (sh : Kp) (sw : Wd) (sth : Wd) (ssc : Sc) (p1 : Int32) (o : (String × Wd × Sc) ⊕ (Int32 × Wd × Sc)) (hrun : fX1_stand Sm sh sw sth ssc p1 = some o) :
    CtX l yX1_stand cX1_stand 3 (some .int) rX1_stand Z D zCl (((cH k ah aw adr aim ard asc ath awl alo atr sh) ++ ((cW k aw sw) ++ ((cW k ath sth) ++ (cS k asc ssc)))) ++ P) [.ref (ah 0), .int p1] (fun r' w' => ∃ (r : Int32) (oth : Wd) (osc : Sc), o = .inr (r, (oth, osc)) ∧ r' = (some (.int r)) ∧ w' = (((cH k ah aw adr aim ard asc ath awl alo atr sh) ++ ((cW k aw sw) ++ ((cW k ath oth) ++ (cS k asc osc)))) ++ P)) (fun E' w' => ∃ (oth : Wd) (osc : Sc), o = .inl (E', (oth, osc)) ∧ w' = (((cH k ah aw adr aim ard asc ath awl alo atr sh) ++ ((cW k aw sw) ++ ((cW k ath oth) ++ (cS k asc osc)))) ++ P)) 1 6 := by
  refine CtX.of (by decide) (Nat.le_of_ble_eq_true rfl) ?_
  intro p e s m args below meth c A hE hnoh hA hP hD hS hz ls hl
  obtain ⟨hx, hb, hr, hml, hown, hts, hlocks, hname⟩ := hE
  have hown : s.vm.findClass RX1 = some m.cls := hown
  have hK := hOK.1 _ _ _ hz
  have hN := hOK.2.1 _ _ _ hz
  have hl : lv_has ls 3 [(0, .ref (ah 0)), (1, .int p1)] := hl
  unfold fX1_stand at hrun
  refine lv_iload_n hx hb dX1_stand_0 rfl (lv_at hl 1 rfl) ?_
  refine lv_iconst (v := (1 : Int32)) hx hb dX1_stand_1 (by decide) ?_
  refine lv_sipush (v := (9999 : Int32)) hx hb dX1_stand_2 (by decide) ?_
  obtain ⟨r_2, hc_1, hrun⟩ := mob_s rfl hrun
  refine cRS (ws := []) (As := [.int p1, .int (1 : Int32), .int (9999 : Int32)]) ⟨hx, hb, hml, hown, hts⟩ hOK hz hS zP0 (mtX1_in l D Z hOK _ _ _ _ hc_1) (kX1_in hts q647 rfl rfl ⟨Nat.le_of_ble_eq_true rfl, Nat.le_of_ble_eq_true rfl⟩) rfl hl.1 rfl (lv_room (Nat.le_of_ble_eq_true rfl)) ⟨Nat.le_of_ble_eq_true rfl, Nat.le_of_ble_eq_true rfl⟩ dX1_stand_5 ?_
  obtain ⟨o_4, hc_3, hrun⟩ := mox_s rfl hrun
  have hP : va_P D zCl ([] ++ ([] ++ (((cH k ah aw adr aim ard asc ath awl alo atr sh) ++ ((cW k aw sw) ++ ((cW k ath sth) ++ (cS k asc ssc)))) ++ P))) _ := hP
  have hD : va_D A ([] ++ ([] ++ (((cH k ah aw adr aim ard asc ath awl alo atr sh) ++ ((cW k aw sw) ++ ((cW k ath sth) ++ (cS k asc ssc)))) ++ P))) := hD
  refine cXS [] [] (((cH k ah aw adr aim ard asc ath awl alo atr sh) ++ ((cW k aw sw) ++ ((cW k ath sth) ++ (cS k asc ssc)))) ++ P) (As := [.int (bz r_2)]) ⟨hx, hb, hml, hown, hts⟩ hOK hz hS hA hP hD (mtX1_demand l D Z hOK hlt hTh _ o_4 hc_3) (kX1_demand hts q1627 rfl rfl ⟨Nat.le_of_ble_eq_true rfl, Nat.le_of_ble_eq_true rfl⟩) rfl hl.1 rfl (lv_room (Nat.le_of_ble_eq_true rfl)) ⟨Nat.le_of_ble_eq_true rfl, Nat.le_of_ble_eq_true rfl⟩ dX1_stand_8 (fun E_ w_ ce_ q9_ H locs hq hP hD hS hce hcv hcl => ?_) (fun r_ w_ H locs hq hP hD hS => ?_)
  · obtain ⟨rfl, rfl⟩ := hq
    have hrun := moxl hrun
    cases hrun
    have hP : va_P D zCl (((cH k ah aw adr aim ard asc ath awl alo atr sh) ++ ((cW k aw sw) ++ ((cW k ath sth) ++ (cS k asc ssc)))) ++ P) _ := hP
    have hD : va_D A (((cH k ah aw adr aim ard asc ath awl alo atr sh) ++ ((cW k aw sw) ++ ((cW k ath sth) ++ (cS k asc ssc)))) ++ P) := hD
    exact zout hnoh hlocks hce hcv hcl hP hD hS ⟨_, _, rfl, rfl⟩ (Nat.le_of_ble_eq_true rfl) (Nat.le_of_ble_eq_true rfl)
  obtain ⟨rfl, rfl, rfl⟩ := hq
  have hrun := moxr hrun
  have hP : va_P D zCl (((cH k ah aw adr aim ard asc ath awl alo atr sh) ++ ((cW k aw sw) ++ ((cW k ath sth) ++ (cS k asc ssc)))) ++ P) _ := hP
  have hD : va_D A (((cH k ah aw adr aim ard asc ath awl alo atr sh) ++ ((cW k aw sw) ++ ((cW k ath sth) ++ (cS k asc ssc)))) ++ P) := hD
  refine lv_aload_n hx hb dX1_stand_11 rfl (lv_at hl 0 rfl) ?_
  refine va_get (ci := 1) (v := .ref (ath 0)) (C := RX1) (T := TX1) (N := 10) hx hb hts in_X1 hown hK hP 0 rfl rfl 6 (by decide) (hts _ q377) (fun _ h9 => h9) rfl dX1_stand_12 ?_
  refine lv_aload_n hx hb dX1_stand_15 rfl (lv_at hl 0 rfl) ?_
  refine va_get (ci := 1) (v := .ref (aw 0)) (C := RX1) (T := TX1) (N := 10) hx hb hts in_X1 hown hK hP 0 rfl rfl 0 (by decide) (hts _ q370) (fun _ h9 => h9) rfl dX1_stand_16 ?_
  obtain ⟨sth_7, hc_6, hrun⟩ := mob_s rfl hrun
  have hP := zsubT (w' := ((cW k ath sth) ++ (cW k aw sw)) ++ ((cH k ah aw adr aim ard asc ath awl alo atr sh) ++ (cS k asc ssc))) hP [10, 11, 12, 13, 14, 15, 16, 17, 18, 1, 2, 3, 4, 5, 6, 7, 8, 9, 0, 19] rfl
  have hD := zsubTD (w' := ((cW k ath sth) ++ (cW k aw sw)) ++ ((cH k ah aw adr aim ard asc ath awl alo atr sh) ++ (cS k asc ssc))) hD [10, 11, 12, 13, 14, 15, 16, 17, 18, 1, 2, 3, 4, 5, 6, 7, 8, 9, 0, 19] (by decide) rfl
  have hP : va_P D zCl ([] ++ (((cW k ath sth) ++ (cW k aw sw)) ++ (((cH k ah aw adr aim ard asc ath awl alo atr sh) ++ (cS k asc ssc)) ++ P))) _ := hP
  have hD : va_D A ([] ++ (((cW k ath sth) ++ (cW k aw sw)) ++ (((cH k ah aw adr aim ard asc ath awl alo atr sh) ++ (cS k asc ssc)) ++ P))) := hD
  refine cWV [] ((cW k ath sth) ++ (cW k aw sw)) (((cH k ah aw adr aim ard asc ath awl alo atr sh) ++ (cS k asc ssc)) ++ P) (As := [.ref (aw 0)]) (ci := 2) ⟨hx, hb, hml, hown, hts⟩ hOK hz hS hA hP hD (mtX2_likens l D k ath aw Z hOK _ _ _ hc_6) (kX2_likens hts q434 rfl rfl ⟨Nat.le_of_ble_eq_true rfl, Nat.le_of_ble_eq_true rfl⟩) 0 rfl rfl rfl hl.1 rfl (lv_room (Nat.le_of_ble_eq_true rfl)) ⟨Nat.le_of_ble_eq_true rfl, Nat.le_of_ble_eq_true rfl⟩ dX1_stand_19 (fun r_ w_ H locs hq hP hD hS => ?_)
  obtain ⟨rfl, rfl⟩ := hq
  have hP : va_P D zCl (((cW k ath sth_7) ++ ((cW k aw sw) ++ ((cH k ah aw adr aim ard asc ath awl alo atr sh) ++ (cS k asc ssc)))) ++ P) _ := hP
  have hD : va_D A (((cW k ath sth_7) ++ ((cW k aw sw) ++ ((cH k ah aw adr aim ard asc ath awl alo atr sh) ++ (cS k asc ssc)))) ++ P) := hD
  have hP := zsubT (w' := ((cH k ah aw adr aim ard asc ath awl alo atr sh) ++ ((cW k aw sw) ++ ((cW k ath sth_7) ++ (cS k asc ssc))))) hP [18, 9, 10, 11, 12, 13, 14, 15, 16, 17, 0, 1, 2, 3, 4, 5, 6, 7, 8, 19] rfl
  have hD := zsubTD (w' := ((cH k ah aw adr aim ard asc ath awl alo atr sh) ++ ((cW k aw sw) ++ ((cW k ath sth_7) ++ (cS k asc ssc))))) hD [18, 9, 10, 11, 12, 13, 14, 15, 16, 17, 0, 1, 2, 3, 4, 5, 6, 7, 8, 19] (by decide) rfl
  refine lv_pop hx hb dX1_stand_22 rfl ?_
  refine lv_iconst (v := (0 : Int32)) hx hb dX1_stand_23 (by decide) ?_
  refine lv_istore_n (lv' := [(2, .int (0 : Int32)), (0, .ref (ah 0)), (1, .int p1)]) hx hb dX1_stand_24 rfl hl (by decide) rfl (fun ls hl => ?_)
  have hL_8 : ∀ n : Nat, ∀ (x2_9 : Int32) (sth_10 : Wd) (ssc_11 : Sc), ∀ (H : Heap) (locs : List Loc), va_P D zCl (((cH k ah aw adr aim ard asc ath awl alo atr sh) ++ ((cW k aw sw) ++ ((cW k ath sth_10) ++ (cS k asc ssc_11)))) ++ P) H → va_D A (((cH k ah aw adr aim ard asc ath awl alo atr sh) ++ ((cW k aw sw) ++ ((cW k ath sth_10) ++ (cS k asc ssc_11)))) ++ P) → va_S A s.heap H locs → ∀ ls : Array Slot, lv_has ls 3 [(0, .ref (ah 0)), (1, .int p1), (2, .int x2_9)] → fX1_stand_L25 p1 Sm sh n x2_9 sth_10 ssc_11 = some o → W p l e rX1_stand s m args below meth c H locs 1 6 (vx_MQ below (QWr (fun r' w' => ∃ (r : Int32) (oth : Wd) (osc : Sc), o = .inr (r, (oth, osc)) ∧ r' = (some (.int r)) ∧ w' = (((cH k ah aw adr aim ard asc ath awl alo atr sh) ++ ((cW k aw sw) ++ ((cW k ath oth) ++ (cS k asc osc)))) ++ P)) D zCl A) (QXr (fun E' w' => ∃ (oth : Wd) (osc : Sc), o = .inl (E', (oth, osc)) ∧ w' = (((cH k ah aw adr aim ard asc ath awl alo atr sh) ++ ((cW k aw sw) ++ ((cW k ath oth) ++ (cS k asc osc)))) ++ P)) D zCl A) args s 1 6 A) (F0 m 25 ls []) := by
    intro n
    induction n with
    | zero =>
      intro x2_9 sth_10 ssc_11 H locs hP hD hS ls hl hrun
      exact nomatch hrun
    | succ n ih =>
      intro x2_9 sth_10 ssc_11 H locs hP hD hS ls hl hrun
      rw [fX1_stand_L25.eq_2] at hrun
      refine lv_iload_n hx hb dX1_stand_25 rfl (lv_at hl 2 rfl) ?_
      refine lv_sipush (v := (400 : Int32)) hx hb dX1_stand_26 (by decide) ?_
      refine lv_icmp_gt (tgt := 55) hx hb dX1_stand_29 (by decide) (fun c_12 => ?_) (fun c_12 => ?_)
      · have hrun := mif_p c_12 hrun
        refine lv_iconst (v := (-1 : Int32)) hx hb dX1_stand_55 (by decide) ?_
        cases hrun
        refine W.widen (k := 1) (n := 6) (Nat.le_of_ble_eq_true rfl) (Nat.le_of_ble_eq_true rfl) ?_
        exact vx_ret (retW_i hx hb hr hlocks hP hD hS ⟨_, _, _, rfl, rfl, rfl⟩ dX1_stand_56)
      have hrun := mif_n c_12 hrun
      refine lv_aload_n hx hb dX1_stand_32 rfl (lv_at hl 0 rfl) ?_
      refine va_get (ci := 1) (v := .ref (ath 0)) (C := RX1) (T := TX1) (N := 10) hx hb hts in_X1 hown hK hP 0 rfl rfl 6 (by decide) (hts _ q377) (fun _ h9 => h9) rfl dX1_stand_33 ?_
      refine va_getN (ci := 2) (v := .int (wd_towers sth_10)) (C := RX2) (T := TX2) (N := 21) hx hb hts in_X2 hown hK hP 10 rfl rfl 7 (by decide) (va_Nw.use rfl (hN _ (zN_of q179 rfl))) (fun _ h9 => h9) rfl dX1_stand_36 ?_
      refine lv_iload_n hx hb dX1_stand_39 rfl (lv_at hl 1 rfl) ?_
      refine lv_icmp_lt (tgt := 45) hx hb dX1_stand_40 (by decide) (fun c_13 => ?_) (fun c_13 => ?_)
      · have hrun := mif_p c_13 hrun
        refine lv_aload_n hx hb dX1_stand_45 rfl (lv_at hl 0 rfl) ?_
        obtain ⟨⟨sth_15, ssc_16⟩, hc_14, hrun⟩ := mob_s rfl hrun
        have hP := zsubT (w' := (cW k aw sw) ++ ((cH k ah aw adr aim ard asc ath awl alo atr sh) ++ ((cW k ath sth_10) ++ (cS k asc ssc_11)))) hP [1, 2, 3, 4, 5, 6, 7, 8, 9, 0, 10, 11, 12, 13, 14, 15, 16, 17, 18, 19] rfl
        have hD := zsubTD (w' := (cW k aw sw) ++ ((cH k ah aw adr aim ard asc ath awl alo atr sh) ++ ((cW k ath sth_10) ++ (cS k asc ssc_11)))) hD [1, 2, 3, 4, 5, 6, 7, 8, 9, 0, 10, 11, 12, 13, 14, 15, 16, 17, 18, 19] (by decide) rfl
        have hP : va_P D zCl ((cW k aw sw) ++ (((cH k ah aw adr aim ard asc ath awl alo atr sh) ++ ((cW k ath sth_10) ++ (cS k asc ssc_11))) ++ P)) _ := hP
        have hD : va_D A ((cW k aw sw) ++ (((cH k ah aw adr aim ard asc ath awl alo atr sh) ++ ((cW k ath sth_10) ++ (cS k asc ssc_11))) ++ P)) := hD
        refine cWVP (cW k aw sw) (((cH k ah aw adr aim ard asc ath awl alo atr sh) ++ ((cW k ath sth_10) ++ (cS k asc ssc_11))) ++ P) (As := []) (ci := 1) ⟨hx, hb, hml, hown, hts⟩ hOK hz hS hA hP hD (mtX1_oneAhead l D k ah aw adr aim ard asc ath awl alo atr Z hOK hFa hFw P Sm hPl _ _ _ _ _ hc_14) (kX1_oneAhead hts q444 rfl rfl ⟨Nat.le_of_ble_eq_true rfl, Nat.le_of_ble_eq_true rfl⟩) 0 rfl rfl rfl hl.1 rfl (lv_room (Nat.le_of_ble_eq_true rfl)) ⟨Nat.le_of_ble_eq_true rfl, Nat.le_of_ble_eq_true rfl⟩ dX1_stand_46 (fun r_ w_ H locs hq hP hD hS => ?_)
        obtain ⟨rfl, rfl⟩ := hq
        have hP : va_P D zCl (((cW k aw sw) ++ ((cH k ah aw adr aim ard asc ath awl alo atr sh) ++ ((cW k ath sth_15) ++ (cS k asc ssc_16)))) ++ P) _ := hP
        have hD : va_D A (((cW k aw sw) ++ ((cH k ah aw adr aim ard asc ath awl alo atr sh) ++ ((cW k ath sth_15) ++ (cS k asc ssc_16)))) ++ P) := hD
        have hP := zsubT (w' := ((cH k ah aw adr aim ard asc ath awl alo atr sh) ++ ((cW k aw sw) ++ ((cW k ath sth_15) ++ (cS k asc ssc_16))))) hP [9, 0, 1, 2, 3, 4, 5, 6, 7, 8, 10, 11, 12, 13, 14, 15, 16, 17, 18, 19] rfl
        have hD := zsubTD (w' := ((cH k ah aw adr aim ard asc ath awl alo atr sh) ++ ((cW k aw sw) ++ ((cW k ath sth_15) ++ (cS k asc ssc_16))))) hD [9, 0, 1, 2, 3, 4, 5, 6, 7, 8, 10, 11, 12, 13, 14, 15, 16, 17, 18, 19] (by decide) rfl
        refine lv_iinc (v := (x2_9 + (1 : Int32))) (lv' := [(2, .int (x2_9 + (1 : Int32))), (0, .ref (ah 0)), (1, .int p1)]) hx hb dX1_stand_49 hl (k := 2) rfl rfl (by decide) rfl (fun ls hl => ?_)
        refine lv_goto (tgt := 25) hx hb dX1_stand_52 (by decide) ?_
        exact ih (x2_9 + (1 : Int32)) sth_15 ssc_16 _ _ hP hD hS ls (lv_sub hl [1, 2, 0] rfl) hrun
      have hrun := mif_n c_13 hrun
      refine lv_iload_n hx hb dX1_stand_43 rfl (lv_at hl 2 rfl) ?_
      cases hrun
      refine W.widen (k := 1) (n := 6) (Nat.le_of_ble_eq_true rfl) (Nat.le_of_ble_eq_true rfl) ?_
      exact vx_ret (retW_i hx hb hr hlocks hP hD hS ⟨_, _, _, rfl, rfl, rfl⟩ dX1_stand_44)
  exact hL_8 mFU (0 : Int32) sth_7 ssc _ _ hP hD hS ls (lv_sub hl [1, 2, 0] rfl) hrun
def rX1_spread : Room := { frames := 32, cells := 1, slots := 6, locals := 1089 }
noncomputable def fX1_spread_L27 (sth_7 : Wd) (K_13 : Int32 → Int32 → Option ((String × Wd × Sc) ⊕ (Int32 × Wd × Sc))) : Nat → Int32 → Int32 → Int32 → Option ((String × Wd × Sc) ⊕ (Int32 × Wd × Sc))
  | 0, _, _, _ => none
  | n + 1, x3_16, x4_17, x5_18 =>
    if (wd_guests sth_7) ≤ x5_18 then
      K_13 x3_16 x4_17
    else
      mck x5_18 8 <|
      if ((wd_here sth_7) (Int32.toNatClampNeg x5_18)) = true then
        mck x5_18 8 <|
        mck x5_18 8 <|
        fX1_spread_L27 sth_7 K_13 n (zmn x3_16 ((wd_doubt sth_7) (Int32.toNatClampNeg x5_18))) (zmx x4_17 ((wd_doubt sth_7) (Int32.toNatClampNeg x5_18))) (x5_18 + (1 : Int32))
      else
        fX1_spread_L27 sth_7 K_13 n x3_16 x4_17 (x5_18 + (1 : Int32))
noncomputable def fX1_spread (Sm : zSem) (sh : Kp) (sw : Wd) (sth : Wd) (ssc : Sc) (p1 : Int32) : Option ((String × Wd × Sc) ⊕ (Int32 × Wd × Sc)) :=
  mob (fX1_in p1 (0 : Int32) (400 : Int32)) fun r_2 =>
  mox (fX1_demand r_2) (fun E_5 => some (.inl (E_5, (sth, ssc)))) fun _ =>
  mob (fX1_worldAt Sm sh sw sth ssc p1) fun q_9 =>
  mjn (fun (x3_11 : Int32) (x4_12 : Int32) =>
  if x3_11 = (1000000 : Int32) then
    some (.inr ((0 : Int32), ((q_9.1), (q_9.2))))
  else
    some (.inr ((x4_12 - x3_11), ((q_9.1), (q_9.2))))) fun K_13 =>
  fX1_spread_L27 (q_9.1) K_13 mFU (1000000 : Int32) (0 : Int32) (0 : Int32)
theorem kX1_spread {R : Room} {s : State} {args : Array Value} {own : String} {idx mc ms : Nat} {rm : Room} (hts : ∀ w ∈ lw_all, w.before args s = true) (hl : Cond.methodLink own idx yX1_spread ∈ lw_all) (hrc : rm.cells = mc) (hrs : rm.slots = ms) (hR : rm.frames + 1 ≤ R.frames ∧ 8 + (6 + 11) + rm.locals ≤ R.locals) : CallW R s args own RX1 idx yX1_spread cX1_spread 6 (some .int) (ws_ yX1_spread cX1_spread 6 (some .int)) rm mc ms 1 :=
  cwV 1 hts (lw_V hl q1857 q1858 q107 q1859) rfl hrc hrs (by decide +kernel) hR
set_option maxHeartbeats 4000000 in
set_option maxRecDepth 100000 in
theorem mtX1_spread (l : Launch) (D : va_G) (k : Nat → ClassId) (ah : Nat → Nat) (aw : Nat → Nat) (adr : Nat → Nat) (aim : Nat → Nat) (ard : Nat → Nat) (asc : Nat → Nat) (ath : Nat → Nat) (awl : Nat → Nat) (alo : Nat → Nat) (atr : Nat → Nat) (Z : zZ) (hOK : zOK D zCl (zTys k) Z) (hlt : l.stackTraces = false) (hTh : zTh Z) {e0 : Nat} {aF : Nat → Nat} (hFa : zFa Z aF) (hFw : zFw Z) (P : va_W) (Sm : zSem) (hPl : zPl k e0 aF P Sm) (sh : Kp) (sw : Wd) (sth : Wd) (ssc : Sc) (p1 : Int32) (o : (String × Wd × Sc) ⊕ (Int32 × Wd × Sc)) (hrun : fX1_spread Sm sh sw sth ssc p1 = some o) :
    CtX l yX1_spread cX1_spread 6 (some .int) rX1_spread Z D zCl (((cH k ah aw adr aim ard asc ath awl alo atr sh) ++ ((cW k aw sw) ++ ((cW k ath sth) ++ (cS k asc ssc)))) ++ P) [.ref (ah 0), .int p1] (fun r' w' => ∃ (r : Int32) (oth : Wd) (osc : Sc), o = .inr (r, (oth, osc)) ∧ r' = (some (.int r)) ∧ w' = (((cH k ah aw adr aim ard asc ath awl alo atr sh) ++ ((cW k aw sw) ++ ((cW k ath oth) ++ (cS k asc osc)))) ++ P)) (fun E' w' => ∃ (oth : Wd) (osc : Sc), o = .inl (E', (oth, osc)) ∧ w' = (((cH k ah aw adr aim ard asc ath awl alo atr sh) ++ ((cW k aw sw) ++ ((cW k ath oth) ++ (cS k asc osc)))) ++ P)) 1 6 := by
  refine CtX.of (by decide) (Nat.le_of_ble_eq_true rfl) ?_
  intro p e s m args below meth c A hE hnoh hA hP hD hS hz ls hl
  obtain ⟨hx, hb, hr, hml, hown, hts, hlocks, hname⟩ := hE
  have hown : s.vm.findClass RX1 = some m.cls := hown
  have hK := hOK.1 _ _ _ hz
  have hN := hOK.2.1 _ _ _ hz
  have hl : lv_has ls 6 [(0, .ref (ah 0)), (1, .int p1)] := hl
  unfold fX1_spread at hrun
  refine lv_iload_n hx hb dX1_spread_0 rfl (lv_at hl 1 rfl) ?_
  refine lv_iconst (v := (0 : Int32)) hx hb dX1_spread_1 (by decide) ?_
  refine lv_sipush (v := (400 : Int32)) hx hb dX1_spread_2 (by decide) ?_
  obtain ⟨r_2, hc_1, hrun⟩ := mob_s rfl hrun
  refine cRS (ws := []) (As := [.int p1, .int (0 : Int32), .int (400 : Int32)]) ⟨hx, hb, hml, hown, hts⟩ hOK hz hS zP0 (mtX1_in l D Z hOK _ _ _ _ hc_1) (kX1_in hts q647 rfl rfl ⟨Nat.le_of_ble_eq_true rfl, Nat.le_of_ble_eq_true rfl⟩) rfl hl.1 rfl (lv_room (Nat.le_of_ble_eq_true rfl)) ⟨Nat.le_of_ble_eq_true rfl, Nat.le_of_ble_eq_true rfl⟩ dX1_spread_5 ?_
  obtain ⟨o_4, hc_3, hrun⟩ := mox_s rfl hrun
  have hP : va_P D zCl ([] ++ ([] ++ (((cH k ah aw adr aim ard asc ath awl alo atr sh) ++ ((cW k aw sw) ++ ((cW k ath sth) ++ (cS k asc ssc)))) ++ P))) _ := hP
  have hD : va_D A ([] ++ ([] ++ (((cH k ah aw adr aim ard asc ath awl alo atr sh) ++ ((cW k aw sw) ++ ((cW k ath sth) ++ (cS k asc ssc)))) ++ P))) := hD
  refine cXS [] [] (((cH k ah aw adr aim ard asc ath awl alo atr sh) ++ ((cW k aw sw) ++ ((cW k ath sth) ++ (cS k asc ssc)))) ++ P) (As := [.int (bz r_2)]) ⟨hx, hb, hml, hown, hts⟩ hOK hz hS hA hP hD (mtX1_demand l D Z hOK hlt hTh _ o_4 hc_3) (kX1_demand hts q1627 rfl rfl ⟨Nat.le_of_ble_eq_true rfl, Nat.le_of_ble_eq_true rfl⟩) rfl hl.1 rfl (lv_room (Nat.le_of_ble_eq_true rfl)) ⟨Nat.le_of_ble_eq_true rfl, Nat.le_of_ble_eq_true rfl⟩ dX1_spread_8 (fun E_ w_ ce_ q9_ H locs hq hP hD hS hce hcv hcl => ?_) (fun r_ w_ H locs hq hP hD hS => ?_)
  · obtain ⟨rfl, rfl⟩ := hq
    have hrun := moxl hrun
    cases hrun
    have hP : va_P D zCl (((cH k ah aw adr aim ard asc ath awl alo atr sh) ++ ((cW k aw sw) ++ ((cW k ath sth) ++ (cS k asc ssc)))) ++ P) _ := hP
    have hD : va_D A (((cH k ah aw adr aim ard asc ath awl alo atr sh) ++ ((cW k aw sw) ++ ((cW k ath sth) ++ (cS k asc ssc)))) ++ P) := hD
    exact zout hnoh hlocks hce hcv hcl hP hD hS ⟨_, _, rfl, rfl⟩ (Nat.le_of_ble_eq_true rfl) (Nat.le_of_ble_eq_true rfl)
  obtain ⟨rfl, rfl, rfl⟩ := hq
  have hrun := moxr hrun
  have hP : va_P D zCl (((cH k ah aw adr aim ard asc ath awl alo atr sh) ++ ((cW k aw sw) ++ ((cW k ath sth) ++ (cS k asc ssc)))) ++ P) _ := hP
  have hD : va_D A (((cH k ah aw adr aim ard asc ath awl alo atr sh) ++ ((cW k aw sw) ++ ((cW k ath sth) ++ (cS k asc ssc)))) ++ P) := hD
  refine lv_aload_n hx hb dX1_spread_11 rfl (lv_at hl 0 rfl) ?_
  refine lv_iload_n hx hb dX1_spread_12 rfl (lv_at hl 1 rfl) ?_
  obtain ⟨⟨sth_7, ssc_8⟩, hc_6, hrun⟩ := mob_s rfl hrun
  have hP : va_P D zCl ([] ++ (((cH k ah aw adr aim ard asc ath awl alo atr sh) ++ ((cW k aw sw) ++ ((cW k ath sth) ++ (cS k asc ssc)))) ++ P)) _ := hP
  have hD : va_D A ([] ++ (((cH k ah aw adr aim ard asc ath awl alo atr sh) ++ ((cW k aw sw) ++ ((cW k ath sth) ++ (cS k asc ssc)))) ++ P)) := hD
  refine cWVP [] (((cH k ah aw adr aim ard asc ath awl alo atr sh) ++ ((cW k aw sw) ++ ((cW k ath sth) ++ (cS k asc ssc)))) ++ P) (As := [.int p1]) (ci := 1) ⟨hx, hb, hml, hown, hts⟩ hOK hz hS hA hP hD (mtX1_worldAt l D k ah aw adr aim ard asc ath awl alo atr Z hOK hFa hFw P Sm hPl _ _ _ _ _ _ _ hc_6) (kX1_worldAt hts q1728 rfl rfl ⟨Nat.le_of_ble_eq_true rfl, Nat.le_of_ble_eq_true rfl⟩) 0 rfl rfl rfl hl.1 rfl (lv_room (Nat.le_of_ble_eq_true rfl)) ⟨Nat.le_of_ble_eq_true rfl, Nat.le_of_ble_eq_true rfl⟩ dX1_spread_13 (fun r_ w_ H locs hq hP hD hS => ?_)
  obtain ⟨rfl, rfl⟩ := hq
  have hP : va_P D zCl (((cH k ah aw adr aim ard asc ath awl alo atr sh) ++ ((cW k aw sw) ++ ((cW k ath sth_7) ++ (cS k asc ssc_8)))) ++ P) _ := hP
  have hD : va_D A (((cH k ah aw adr aim ard asc ath awl alo atr sh) ++ ((cW k aw sw) ++ ((cW k ath sth_7) ++ (cS k asc ssc_8)))) ++ P) := hD
  refine lv_astore_n (lv' := [(2, .ref (ath 0)), (0, .ref (ah 0)), (1, .int p1)]) hx hb dX1_spread_16 rfl hl (by decide) rfl (fun ls hl => ?_)
  refine lv_ldcw (v := (1000000 : Int32)) hx hb hown (hts _ q1838) dX1_spread_17 ?_
  refine lv_istore_n (lv' := [(3, .int (1000000 : Int32)), (2, .ref (ath 0)), (0, .ref (ah 0)), (1, .int p1)]) hx hb dX1_spread_20 rfl hl (by decide) rfl (fun ls hl => ?_)
  refine lv_iconst (v := (0 : Int32)) hx hb dX1_spread_21 (by decide) ?_
  refine lv_istore (lv' := [(4, .int (0 : Int32)), (3, .int (1000000 : Int32)), (2, .ref (ath 0)), (0, .ref (ah 0)), (1, .int p1)]) hx hb dX1_spread_22 hl (by decide) rfl (fun ls hl => ?_)
  refine lv_iconst (v := (0 : Int32)) hx hb dX1_spread_24 (by decide) ?_
  refine lv_istore (lv' := [(5, .int (0 : Int32)), (4, .int (0 : Int32)), (3, .int (1000000 : Int32)), (2, .ref (ath 0)), (0, .ref (ah 0)), (1, .int p1)]) hx hb dX1_spread_25 hl (by decide) rfl (fun ls hl => ?_)
  obtain ⟨K_13, hK_13, hrun⟩ := mjn_s hrun
  have hj_10 : ∀ (x3_11 : Int32) (x4_12 : Int32), ∀ (H : Heap) (locs : List Loc), va_P D zCl (((cH k ah aw adr aim ard asc ath awl alo atr sh) ++ ((cW k aw sw) ++ ((cW k ath sth_7) ++ (cS k asc ssc_8)))) ++ P) H → va_D A (((cH k ah aw adr aim ard asc ath awl alo atr sh) ++ ((cW k aw sw) ++ ((cW k ath sth_7) ++ (cS k asc ssc_8)))) ++ P) → va_S A s.heap H locs → ∀ ls : Array Slot, lv_has ls 6 [(3, .int x3_11), (4, .int x4_12)] → K_13 x3_11 x4_12 = some o → W p l e rX1_spread s m args below meth c H locs 1 6 (vx_MQ below (QWr (fun r' w' => ∃ (r : Int32) (oth : Wd) (osc : Sc), o = .inr (r, (oth, osc)) ∧ r' = (some (.int r)) ∧ w' = (((cH k ah aw adr aim ard asc ath awl alo atr sh) ++ ((cW k aw sw) ++ ((cW k ath oth) ++ (cS k asc osc)))) ++ P)) D zCl A) (QXr (fun E' w' => ∃ (oth : Wd) (osc : Sc), o = .inl (E', (oth, osc)) ∧ w' = (((cH k ah aw adr aim ard asc ath awl alo atr sh) ++ ((cW k aw sw) ++ ((cW k ath oth) ++ (cS k asc osc)))) ++ P)) D zCl A) args s 1 6 A) (F0 m 81 ls []) := by
    intro x3_11 x4_12 H locs hP hD hS ls hl hrun
    rw [hK_13] at hrun
    refine lv_iload_n hx hb dX1_spread_81 rfl (lv_at hl 0 rfl) ?_
    refine lv_ldcw (v := (1000000 : Int32)) hx hb hown (hts _ q1838) dX1_spread_82 ?_
    refine lv_icmp_ne (tgt := 92) hx hb dX1_spread_85 (by decide) (fun c_14 => ?_) (fun c_14 => ?_)
    · have hrun := mif_n c_14 hrun
      refine lv_iload hx hb dX1_spread_92 (lv_at hl 1 rfl) ?_
      refine lv_iload_n hx hb dX1_spread_94 rfl (lv_at hl 0 rfl) ?_
      refine lv_isub hx hb dX1_spread_95 ?_
      cases hrun
      refine W.widen (k := 1) (n := 6) (Nat.le_of_ble_eq_true rfl) (Nat.le_of_ble_eq_true rfl) ?_
      exact vx_ret (retW_i hx hb hr hlocks hP hD hS ⟨_, _, _, rfl, rfl, rfl⟩ dX1_spread_96)
    have hrun := mif_p c_14 hrun
    refine lv_iconst (v := (0 : Int32)) hx hb dX1_spread_88 (by decide) ?_
    refine lv_goto (tgt := 96) hx hb dX1_spread_89 (by decide) ?_
    cases hrun
    refine W.widen (k := 1) (n := 6) (Nat.le_of_ble_eq_true rfl) (Nat.le_of_ble_eq_true rfl) ?_
    exact vx_ret (retW_i hx hb hr hlocks hP hD hS ⟨_, _, _, rfl, rfl, rfl⟩ dX1_spread_96)
  have hL_15 : ∀ n : Nat, ∀ (x3_16 : Int32) (x4_17 : Int32) (x5_18 : Int32), ∀ (H : Heap) (locs : List Loc), va_P D zCl (((cH k ah aw adr aim ard asc ath awl alo atr sh) ++ ((cW k aw sw) ++ ((cW k ath sth_7) ++ (cS k asc ssc_8)))) ++ P) H → va_D A (((cH k ah aw adr aim ard asc ath awl alo atr sh) ++ ((cW k aw sw) ++ ((cW k ath sth_7) ++ (cS k asc ssc_8)))) ++ P) → va_S A s.heap H locs → ∀ ls : Array Slot, lv_has ls 6 [(2, .ref (ath 0)), (3, .int x3_16), (4, .int x4_17), (5, .int x5_18)] → fX1_spread_L27 sth_7 K_13 n x3_16 x4_17 x5_18 = some o → W p l e rX1_spread s m args below meth c H locs 1 6 (vx_MQ below (QWr (fun r' w' => ∃ (r : Int32) (oth : Wd) (osc : Sc), o = .inr (r, (oth, osc)) ∧ r' = (some (.int r)) ∧ w' = (((cH k ah aw adr aim ard asc ath awl alo atr sh) ++ ((cW k aw sw) ++ ((cW k ath oth) ++ (cS k asc osc)))) ++ P)) D zCl A) (QXr (fun E' w' => ∃ (oth : Wd) (osc : Sc), o = .inl (E', (oth, osc)) ∧ w' = (((cH k ah aw adr aim ard asc ath awl alo atr sh) ++ ((cW k aw sw) ++ ((cW k ath oth) ++ (cS k asc osc)))) ++ P)) D zCl A) args s 1 6 A) (F0 m 27 ls []) := by
    intro n
    induction n with
    | zero =>
      intro x3_16 x4_17 x5_18 H locs hP hD hS ls hl hrun
      exact nomatch hrun
    | succ n ih =>
      intro x3_16 x4_17 x5_18 H locs hP hD hS ls hl hrun
      rw [fX1_spread_L27.eq_2] at hrun
      refine lv_iload hx hb dX1_spread_27 (lv_at hl 3 rfl) ?_
      refine lv_aload_n hx hb dX1_spread_29 rfl (lv_at hl 0 rfl) ?_
      refine va_getN (ci := 2) (v := .int (wd_guests sth_7)) (C := RX2) (T := TX2) (N := 21) hx hb hts in_X2 hown hK hP 10 rfl rfl 1 (by decide) (va_Nw.use rfl (hN _ (zN_of q166 rfl))) (fun _ h9 => h9) rfl dX1_spread_30 ?_
      refine lv_icmp_ge (tgt := 81) hx hb dX1_spread_33 (by decide) (fun c_19 => ?_) (fun c_19 => ?_)
      · have hrun := mif_p c_19 hrun
        exact hj_10 x3_16 x4_17 _ _ hP hD hS ls (lv_sub hl [1, 2] rfl) hrun
      have hrun := mif_n c_19 hrun
      refine lv_aload_n hx hb dX1_spread_36 rfl (lv_at hl 0 rfl) ?_
      refine va_getN (ci := 2) (v := .ref (ath 6)) (C := RX2) (T := TX2) (N := 21) hx hb hts in_X2 hown hK hP 10 rfl rfl 17 (by decide) (va_Nw.use rfl (hN _ (zN_of q202 rfl))) (fun _ h9 => h9) rfl dX1_spread_37 ?_
      refine lv_iload hx hb dX1_spread_40 (lv_at hl 3 rfl) ?_
      obtain ⟨hb_20, hrun⟩ := mck_s rfl hrun
      refine va_zald hx hb hK hP 16 1 rfl rfl hb_20 dX1_spread_42 ?_
      refine lv_if_ne (tgt := 49) hx hb dX1_spread_43 (by decide) (fun c_21 => ?_) (fun c_21 => ?_)
      · have hrun := mif_p (bz_nz c_21) hrun
        refine lv_iload_n hx hb dX1_spread_49 rfl (lv_at hl 1 rfl) ?_
        refine lv_aload_n hx hb dX1_spread_50 rfl (lv_at hl 0 rfl) ?_
        refine va_getN (ci := 2) (v := .ref (ath 4)) (C := RX2) (T := TX2) (N := 21) hx hb hts in_X2 hown hK hP 10 rfl rfl 15 (by decide) (va_Nw.use rfl (hN _ (zN_of q196 rfl))) (fun _ h9 => h9) rfl dX1_spread_51 ?_
        refine lv_iload hx hb dX1_spread_54 (lv_at hl 3 rfl) ?_
        obtain ⟨hb_22, hrun⟩ := mck_s rfl hrun
        refine va_iald hx hb hK hP 14 0 rfl rfl hb_22 dX1_spread_56 ?_
        refine va_mmin hx hb (hml.trans hl.1.symm) hown (hts _ q1690) (hts _ q550) (hts _ q122) (hts _ q551) (Nat.le_of_ble_eq_true rfl) (Nat.le_of_ble_eq_true rfl) (Nat.le_of_ble_eq_true rfl) (Nat.le_of_ble_eq_true rfl) dX1_spread_57 ?_
        refine lv_istore_n (lv' := [(3, .int (zmn x3_16 ((wd_doubt sth_7) (Int32.toNatClampNeg x5_18)))), (2, .ref (ath 0)), (4, .int x4_17), (5, .int x5_18)]) hx hb dX1_spread_60 rfl hl (by decide) rfl (fun ls hl => ?_)
        refine lv_iload hx hb dX1_spread_61 (lv_at hl 2 rfl) ?_
        refine lv_aload_n hx hb dX1_spread_63 rfl (lv_at hl 1 rfl) ?_
        refine va_getN (ci := 2) (v := .ref (ath 4)) (C := RX2) (T := TX2) (N := 21) hx hb hts in_X2 hown hK hP 10 rfl rfl 15 (by decide) (va_Nw.use rfl (hN _ (zN_of q196 rfl))) (fun _ h9 => h9) rfl dX1_spread_64 ?_
        refine lv_iload hx hb dX1_spread_67 (lv_at hl 3 rfl) ?_
        obtain ⟨hb_23, hrun⟩ := mck_s rfl hrun
        refine va_iald hx hb hK hP 14 0 rfl rfl hb_23 dX1_spread_69 ?_
        refine va_mmax hx hb (hml.trans hl.1.symm) hown (hts _ q1801) (hts _ q553) (hts _ q122) (hts _ q554) (Nat.le_of_ble_eq_true rfl) (Nat.le_of_ble_eq_true rfl) (Nat.le_of_ble_eq_true rfl) (Nat.le_of_ble_eq_true rfl) dX1_spread_70 ?_
        refine lv_istore (lv' := [(4, .int (zmx x4_17 ((wd_doubt sth_7) (Int32.toNatClampNeg x5_18)))), (3, .int (zmn x3_16 ((wd_doubt sth_7) (Int32.toNatClampNeg x5_18)))), (2, .ref (ath 0)), (5, .int x5_18)]) hx hb dX1_spread_73 hl (by decide) rfl (fun ls hl => ?_)
        refine lv_iinc (v := (x5_18 + (1 : Int32))) (lv' := [(5, .int (x5_18 + (1 : Int32))), (4, .int (zmx x4_17 ((wd_doubt sth_7) (Int32.toNatClampNeg x5_18)))), (3, .int (zmn x3_16 ((wd_doubt sth_7) (Int32.toNatClampNeg x5_18)))), (2, .ref (ath 0))]) hx hb dX1_spread_75 hl (k := 3) rfl rfl (by decide) rfl (fun ls hl => ?_)
        refine lv_goto (tgt := 27) hx hb dX1_spread_78 (by decide) ?_
        exact ih (zmn x3_16 ((wd_doubt sth_7) (Int32.toNatClampNeg x5_18))) (zmx x4_17 ((wd_doubt sth_7) (Int32.toNatClampNeg x5_18))) (x5_18 + (1 : Int32)) _ _ hP hD hS ls (lv_sub hl [3, 2, 1, 0] rfl) hrun
      have hrun := mif_n (bz_z c_21) hrun
      refine lv_goto (tgt := 75) hx hb dX1_spread_46 (by decide) ?_
      refine lv_iinc (v := (x5_18 + (1 : Int32))) (lv' := [(5, .int (x5_18 + (1 : Int32))), (2, .ref (ath 0)), (3, .int x3_16), (4, .int x4_17)]) hx hb dX1_spread_75 hl (k := 3) rfl rfl (by decide) rfl (fun ls hl => ?_)
      refine lv_goto (tgt := 27) hx hb dX1_spread_78 (by decide) ?_
      exact ih x3_16 x4_17 (x5_18 + (1 : Int32)) _ _ hP hD hS ls (lv_sub hl [1, 2, 3, 0] rfl) hrun
  exact hL_15 mFU (1000000 : Int32) (0 : Int32) (0 : Int32) _ _ hP hD hS ls (lv_sub hl [3, 2, 1, 0] rfl) hrun
def rX1_guest : Room := { frames := 29, cells := 2, slots := 12, locals := 1025 }
noncomputable def fX1_guest (Sm : zSem) (sh : Kp) (sw : Wd) (ssc : Sc) (p1 : Int32) (p2 : Int32) : Option ((String × Sc) ⊕ (Int32 × Sc)) :=
  mox (fX1_guestAt sh sw p1) (fun E_3 => some (.inl (E_3, ssc))) fun _ =>
  mox (fX1_question p2 (8 : Int32)) (fun E_6 => some (.inl (E_6, ssc))) fun _ =>
  if p2 = (0 : Int32) then
    mck p1 8 <|
    some (.inr (((wd_room sw) (Int32.toNatClampNeg p1)), ssc))
  else
    if p2 = (1 : Int32) then
      mck p1 8 <|
      some (.inr (((wd_wish sw) (Int32.toNatClampNeg p1)), ssc))
    else
      if p2 = (2 : Int32) then
        mck p1 8 <|
        some (.inr (((wd_doubt sw) (Int32.toNatClampNeg p1)), ssc))
      else
        if p2 = (3 : Int32) then
          mck p1 8 <|
          if ((wd_key sw) (Int32.toNatClampNeg p1)) = true then
            some (.inr ((1 : Int32), ssc))
          else
            some (.inr ((0 : Int32), ssc))
        else
          if p2 = (4 : Int32) then
            mck p1 8 <|
            if ((wd_here sw) (Int32.toNatClampNeg p1)) = true then
              some (.inr ((1 : Int32), ssc))
            else
              some (.inr ((0 : Int32), ssc))
          else
            if p2 = (5 : Int32) then
              mob (fX2_risk sw p1) fun r_21 =>
              some (.inr (r_21, ssc))
            else
              if p2 = (6 : Int32) then
                mo2 (fX1_turnsBy Sm sh sw ssc p1) fun r_25 ssc_24 =>
                some (.inr (r_25, ssc_24))
              else
                if p2 = (7 : Int32) then
                  mck p1 8 <|
                  mck p1 8 <|
                  mob (fX2_spies sw ((wd_room sw) (Int32.toNatClampNeg p1)) ((wd_key sw) (Int32.toNatClampNeg p1))) fun r_30 =>
                  some (.inr (r_30, ssc))
                else
                  mob (fX1_shareOf sh sw p1) fun r_32 =>
                  some (.inr (r_32, ssc))
theorem kX1_guest {R : Room} {s : State} {args : Array Value} {own : String} {idx mc ms : Nat} {rm : Room} (hts : ∀ w ∈ lw_all, w.before args s = true) (hl : Cond.methodLink own idx yX1_guest ∈ lw_all) (hrc : rm.cells = mc) (hrs : rm.slots = ms) (hR : rm.frames + 1 ≤ R.frames ∧ 8 + (4 + 11) + rm.locals ≤ R.locals) : CallW R s args own RX1 idx yX1_guest cX1_guest 4 (some .int) (ws_ yX1_guest cX1_guest 4 (some .int)) rm mc ms 2 :=
  cwV 2 hts (lw_V hl q1549 q1550 q107 q1551) rfl hrc hrs (by decide +kernel) hR
set_option maxHeartbeats 4000000 in
set_option maxRecDepth 100000 in
theorem mtX1_guest (l : Launch) (D : va_G) (k : Nat → ClassId) (ah : Nat → Nat) (aw : Nat → Nat) (adr : Nat → Nat) (aim : Nat → Nat) (ard : Nat → Nat) (asc : Nat → Nat) (ath : Nat → Nat) (awl : Nat → Nat) (alo : Nat → Nat) (atr : Nat → Nat) (Z : zZ) (hOK : zOK D zCl (zTys k) Z) (hlt : l.stackTraces = false) (hTh : zTh Z) {e0 : Nat} {aF : Nat → Nat} (hFa : zFa Z aF) (hFw : zFw Z) (P : va_W) (Sm : zSem) (hPl : zPl k e0 aF P Sm) (sh : Kp) (sw : Wd) (ssc : Sc) (p1 : Int32) (p2 : Int32) (o : (String × Sc) ⊕ (Int32 × Sc)) (hrun : fX1_guest Sm sh sw ssc p1 p2 = some o) :
    CtX l yX1_guest cX1_guest 4 (some .int) rX1_guest Z D zCl (((cH k ah aw adr aim ard asc ath awl alo atr sh) ++ ((cW k aw sw) ++ (cS k asc ssc))) ++ P) [.ref (ah 0), .int p1, .int p2] (fun r' w' => ∃ (r : Int32) (osc : Sc), o = .inr (r, osc) ∧ r' = (some (.int r)) ∧ w' = (((cH k ah aw adr aim ard asc ath awl alo atr sh) ++ ((cW k aw sw) ++ (cS k asc osc))) ++ P)) (fun E' w' => ∃ (osc : Sc), o = .inl (E', osc) ∧ w' = (((cH k ah aw adr aim ard asc ath awl alo atr sh) ++ ((cW k aw sw) ++ (cS k asc osc))) ++ P)) 2 12 := by
  refine CtX.of (by decide) (Nat.le_of_ble_eq_true rfl) ?_
  intro p e s m args below meth c A hE hnoh hA hP hD hS hz ls hl
  obtain ⟨hx, hb, hr, hml, hown, hts, hlocks, hname⟩ := hE
  have hown : s.vm.findClass RX1 = some m.cls := hown
  have hK := hOK.1 _ _ _ hz
  have hN := hOK.2.1 _ _ _ hz
  have hl : lv_has ls 4 [(0, .ref (ah 0)), (1, .int p1), (2, .int p2)] := hl
  unfold fX1_guest at hrun
  refine lv_aload_n hx hb dX1_guest_0 rfl (lv_at hl 0 rfl) ?_
  refine lv_iload_n hx hb dX1_guest_1 rfl (lv_at hl 1 rfl) ?_
  obtain ⟨o_2, hc_1, hrun⟩ := mox_s rfl hrun
  have hP : va_P D zCl ([] ++ (((cH k ah aw adr aim ard asc ath awl alo atr sh) ++ (cW k aw sw)) ++ ((cS k asc ssc) ++ P))) _ := hP
  have hD : va_D A ([] ++ (((cH k ah aw adr aim ard asc ath awl alo atr sh) ++ (cW k aw sw)) ++ ((cS k asc ssc) ++ P))) := hD
  refine cXV [] ((cH k ah aw adr aim ard asc ath awl alo atr sh) ++ (cW k aw sw)) ((cS k asc ssc) ++ P) (As := [.int p1]) (ci := 1) ⟨hx, hb, hml, hown, hts⟩ hOK hz hS hA hP hD (mtX1_guestAt l D k ah aw adr aim ard asc ath awl alo atr Z hOK hlt hTh _ _ _ o_2 hc_1) (kX1_guestAt hts q1552 rfl rfl ⟨Nat.le_of_ble_eq_true rfl, Nat.le_of_ble_eq_true rfl⟩) 0 rfl rfl rfl hl.1 rfl (lv_room (Nat.le_of_ble_eq_true rfl)) ⟨Nat.le_of_ble_eq_true rfl, Nat.le_of_ble_eq_true rfl⟩ dX1_guest_2 (fun E_ w_ ce_ q9_ H locs hq hP hD hS hce hcv hcl => ?_) (fun r_ w_ H locs hq hP hD hS => ?_)
  · obtain ⟨rfl, rfl⟩ := hq
    have hrun := moxl hrun
    cases hrun
    have hP : va_P D zCl (((cH k ah aw adr aim ard asc ath awl alo atr sh) ++ ((cW k aw sw) ++ (cS k asc ssc))) ++ P) _ := hP
    have hD : va_D A (((cH k ah aw adr aim ard asc ath awl alo atr sh) ++ ((cW k aw sw) ++ (cS k asc ssc))) ++ P) := hD
    exact zout hnoh hlocks hce hcv hcl hP hD hS ⟨_, rfl, rfl⟩ (Nat.le_of_ble_eq_true rfl) (Nat.le_of_ble_eq_true rfl)
  obtain ⟨rfl, rfl, rfl⟩ := hq
  have hrun := moxr hrun
  have hP : va_P D zCl (((cH k ah aw adr aim ard asc ath awl alo atr sh) ++ ((cW k aw sw) ++ (cS k asc ssc))) ++ P) _ := hP
  have hD : va_D A (((cH k ah aw adr aim ard asc ath awl alo atr sh) ++ ((cW k aw sw) ++ (cS k asc ssc))) ++ P) := hD
  refine lv_iload_n hx hb dX1_guest_5 rfl (lv_at hl 2 rfl) ?_
  refine lv_bipush (v := (8 : Int32)) hx hb dX1_guest_6 (by decide) ?_
  obtain ⟨o_5, hc_4, hrun⟩ := mox_s rfl hrun
  have hP : va_P D zCl ([] ++ ([] ++ (((cH k ah aw adr aim ard asc ath awl alo atr sh) ++ ((cW k aw sw) ++ (cS k asc ssc))) ++ P))) _ := hP
  have hD : va_D A ([] ++ ([] ++ (((cH k ah aw adr aim ard asc ath awl alo atr sh) ++ ((cW k aw sw) ++ (cS k asc ssc))) ++ P))) := hD
  refine cXS [] [] (((cH k ah aw adr aim ard asc ath awl alo atr sh) ++ ((cW k aw sw) ++ (cS k asc ssc))) ++ P) (As := [.int p2, .int (8 : Int32)]) ⟨hx, hb, hml, hown, hts⟩ hOK hz hS hA hP hD (mtX1_question l D Z hOK hlt hTh _ _ o_5 hc_4) (kX1_question hts q1574 rfl rfl ⟨Nat.le_of_ble_eq_true rfl, Nat.le_of_ble_eq_true rfl⟩) rfl hl.1 rfl (lv_room (Nat.le_of_ble_eq_true rfl)) ⟨Nat.le_of_ble_eq_true rfl, Nat.le_of_ble_eq_true rfl⟩ dX1_guest_8 (fun E_ w_ ce_ q9_ H locs hq hP hD hS hce hcv hcl => ?_) (fun r_ w_ H locs hq hP hD hS => ?_)
  · obtain ⟨rfl, rfl⟩ := hq
    have hrun := moxl hrun
    cases hrun
    have hP : va_P D zCl (((cH k ah aw adr aim ard asc ath awl alo atr sh) ++ ((cW k aw sw) ++ (cS k asc ssc))) ++ P) _ := hP
    have hD : va_D A (((cH k ah aw adr aim ard asc ath awl alo atr sh) ++ ((cW k aw sw) ++ (cS k asc ssc))) ++ P) := hD
    exact zout hnoh hlocks hce hcv hcl hP hD hS ⟨_, rfl, rfl⟩ (Nat.le_of_ble_eq_true rfl) (Nat.le_of_ble_eq_true rfl)
  obtain ⟨rfl, rfl, rfl⟩ := hq
  have hrun := moxr hrun
  have hP : va_P D zCl (((cH k ah aw adr aim ard asc ath awl alo atr sh) ++ ((cW k aw sw) ++ (cS k asc ssc))) ++ P) _ := hP
  have hD : va_D A (((cH k ah aw adr aim ard asc ath awl alo atr sh) ++ ((cW k aw sw) ++ (cS k asc ssc))) ++ P) := hD
  refine lv_aload_n hx hb dX1_guest_11 rfl (lv_at hl 0 rfl) ?_
  refine va_get (ci := 1) (v := .ref (aw 0)) (C := RX1) (T := TX1) (N := 10) hx hb hts in_X1 hown hK hP 0 rfl rfl 0 (by decide) (hts _ q370) (fun _ h9 => h9) rfl dX1_guest_12 ?_
  refine lv_astore_n (lv' := [(3, .ref (aw 0)), (0, .ref (ah 0)), (1, .int p1), (2, .int p2)]) hx hb dX1_guest_15 rfl hl (by decide) rfl (fun ls hl => ?_)
  refine lv_iload_n hx hb dX1_guest_16 rfl (lv_at hl 3 rfl) ?_
  by_cases c_7 : p2 = (0 : Int32)
  · have hrun := mif_p c_7 hrun
    refine lv_tableIn (off := 47) (tgt := 64) hx hb dX1_guest_17 (by rw [c_7]; decide) (by rw [c_7]; decide) (by rw [c_7]; rfl) (by decide) ?_
    refine lv_aload_n hx hb dX1_guest_64 rfl (lv_at hl 0 rfl) ?_
    refine va_getN (ci := 2) (v := .ref (aw 2)) (C := RX2) (T := TX2) (N := 21) hx hb hts in_X2 hown hK hP 1 rfl rfl 13 (by decide) (va_Nw.use rfl (hN _ (zN_of q192 rfl))) (fun _ h9 => h9) rfl dX1_guest_65 ?_
    refine lv_iload_n hx hb dX1_guest_68 rfl (lv_at hl 2 rfl) ?_
    obtain ⟨hb_8, hrun⟩ := mck_s rfl hrun
    refine va_iald hx hb hK hP 3 0 rfl rfl hb_8 dX1_guest_69 ?_
    cases hrun
    refine W.widen (k := 2) (n := 12) (Nat.le_of_ble_eq_true rfl) (Nat.le_of_ble_eq_true rfl) ?_
    exact vx_ret (retW_i hx hb hr hlocks hP hD hS ⟨_, _, rfl, rfl, rfl⟩ dX1_guest_70)
  have hrun := mif_n c_7 hrun
  by_cases c_9 : p2 = (1 : Int32)
  · have hrun := mif_p c_9 hrun
    refine lv_tableIn (off := 54) (tgt := 71) hx hb dX1_guest_17 (by rw [c_9]; decide) (by rw [c_9]; decide) (by rw [c_9]; rfl) (by decide) ?_
    refine lv_aload_n hx hb dX1_guest_71 rfl (lv_at hl 0 rfl) ?_
    refine va_getN (ci := 2) (v := .ref (aw 3)) (C := RX2) (T := TX2) (N := 21) hx hb hts in_X2 hown hK hP 1 rfl rfl 14 (by decide) (va_Nw.use rfl (hN _ (zN_of q194 rfl))) (fun _ h9 => h9) rfl dX1_guest_72 ?_
    refine lv_iload_n hx hb dX1_guest_75 rfl (lv_at hl 2 rfl) ?_
    obtain ⟨hb_10, hrun⟩ := mck_s rfl hrun
    refine va_iald hx hb hK hP 4 0 rfl rfl hb_10 dX1_guest_76 ?_
    cases hrun
    refine W.widen (k := 2) (n := 12) (Nat.le_of_ble_eq_true rfl) (Nat.le_of_ble_eq_true rfl) ?_
    exact vx_ret (retW_i hx hb hr hlocks hP hD hS ⟨_, _, rfl, rfl, rfl⟩ dX1_guest_77)
  have hrun := mif_n c_9 hrun
  by_cases c_11 : p2 = (2 : Int32)
  · have hrun := mif_p c_11 hrun
    refine lv_tableIn (off := 61) (tgt := 78) hx hb dX1_guest_17 (by rw [c_11]; decide) (by rw [c_11]; decide) (by rw [c_11]; rfl) (by decide) ?_
    refine lv_aload_n hx hb dX1_guest_78 rfl (lv_at hl 0 rfl) ?_
    refine va_getN (ci := 2) (v := .ref (aw 4)) (C := RX2) (T := TX2) (N := 21) hx hb hts in_X2 hown hK hP 1 rfl rfl 15 (by decide) (va_Nw.use rfl (hN _ (zN_of q196 rfl))) (fun _ h9 => h9) rfl dX1_guest_79 ?_
    refine lv_iload_n hx hb dX1_guest_82 rfl (lv_at hl 2 rfl) ?_
    obtain ⟨hb_12, hrun⟩ := mck_s rfl hrun
    refine va_iald hx hb hK hP 5 0 rfl rfl hb_12 dX1_guest_83 ?_
    cases hrun
    refine W.widen (k := 2) (n := 12) (Nat.le_of_ble_eq_true rfl) (Nat.le_of_ble_eq_true rfl) ?_
    exact vx_ret (retW_i hx hb hr hlocks hP hD hS ⟨_, _, rfl, rfl, rfl⟩ dX1_guest_84)
  have hrun := mif_n c_11 hrun
  by_cases c_13 : p2 = (3 : Int32)
  · have hrun := mif_p c_13 hrun
    refine lv_tableIn (off := 68) (tgt := 85) hx hb dX1_guest_17 (by rw [c_13]; decide) (by rw [c_13]; decide) (by rw [c_13]; rfl) (by decide) ?_
    refine lv_aload_n hx hb dX1_guest_85 rfl (lv_at hl 0 rfl) ?_
    refine va_getN (ci := 2) (v := .ref (aw 5)) (C := RX2) (T := TX2) (N := 21) hx hb hts in_X2 hown hK hP 1 rfl rfl 16 (by decide) (va_Nw.use rfl (hN _ (zN_of q199 rfl))) (fun _ h9 => h9) rfl dX1_guest_86 ?_
    refine lv_iload_n hx hb dX1_guest_89 rfl (lv_at hl 2 rfl) ?_
    obtain ⟨hb_14, hrun⟩ := mck_s rfl hrun
    refine va_zald hx hb hK hP 6 1 rfl rfl hb_14 dX1_guest_90 ?_
    refine lv_if_eq (tgt := 98) hx hb dX1_guest_91 (by decide) (fun c_15 => ?_) (fun c_15 => ?_)
    · have hrun := mif_n (bz_z c_15) hrun
      refine lv_iconst (v := (0 : Int32)) hx hb dX1_guest_98 (by decide) ?_
      cases hrun
      refine W.widen (k := 2) (n := 12) (Nat.le_of_ble_eq_true rfl) (Nat.le_of_ble_eq_true rfl) ?_
      exact vx_ret (retW_i hx hb hr hlocks hP hD hS ⟨_, _, rfl, rfl, rfl⟩ dX1_guest_99)
    have hrun := mif_p (bz_nz c_15) hrun
    refine lv_iconst (v := (1 : Int32)) hx hb dX1_guest_94 (by decide) ?_
    refine lv_goto (tgt := 99) hx hb dX1_guest_95 (by decide) ?_
    cases hrun
    refine W.widen (k := 2) (n := 12) (Nat.le_of_ble_eq_true rfl) (Nat.le_of_ble_eq_true rfl) ?_
    exact vx_ret (retW_i hx hb hr hlocks hP hD hS ⟨_, _, rfl, rfl, rfl⟩ dX1_guest_99)
  have hrun := mif_n c_13 hrun
  by_cases c_16 : p2 = (4 : Int32)
  · have hrun := mif_p c_16 hrun
    refine lv_tableIn (off := 83) (tgt := 100) hx hb dX1_guest_17 (by rw [c_16]; decide) (by rw [c_16]; decide) (by rw [c_16]; rfl) (by decide) ?_
    refine lv_aload_n hx hb dX1_guest_100 rfl (lv_at hl 0 rfl) ?_
    refine va_getN (ci := 2) (v := .ref (aw 6)) (C := RX2) (T := TX2) (N := 21) hx hb hts in_X2 hown hK hP 1 rfl rfl 17 (by decide) (va_Nw.use rfl (hN _ (zN_of q202 rfl))) (fun _ h9 => h9) rfl dX1_guest_101 ?_
    refine lv_iload_n hx hb dX1_guest_104 rfl (lv_at hl 2 rfl) ?_
    obtain ⟨hb_17, hrun⟩ := mck_s rfl hrun
    refine va_zald hx hb hK hP 7 1 rfl rfl hb_17 dX1_guest_105 ?_
    refine lv_if_eq (tgt := 113) hx hb dX1_guest_106 (by decide) (fun c_18 => ?_) (fun c_18 => ?_)
    · have hrun := mif_n (bz_z c_18) hrun
      refine lv_iconst (v := (0 : Int32)) hx hb dX1_guest_113 (by decide) ?_
      cases hrun
      refine W.widen (k := 2) (n := 12) (Nat.le_of_ble_eq_true rfl) (Nat.le_of_ble_eq_true rfl) ?_
      exact vx_ret (retW_i hx hb hr hlocks hP hD hS ⟨_, _, rfl, rfl, rfl⟩ dX1_guest_114)
    have hrun := mif_p (bz_nz c_18) hrun
    refine lv_iconst (v := (1 : Int32)) hx hb dX1_guest_109 (by decide) ?_
    refine lv_goto (tgt := 114) hx hb dX1_guest_110 (by decide) ?_
    cases hrun
    refine W.widen (k := 2) (n := 12) (Nat.le_of_ble_eq_true rfl) (Nat.le_of_ble_eq_true rfl) ?_
    exact vx_ret (retW_i hx hb hr hlocks hP hD hS ⟨_, _, rfl, rfl, rfl⟩ dX1_guest_114)
  have hrun := mif_n c_16 hrun
  by_cases c_19 : p2 = (5 : Int32)
  · have hrun := mif_p c_19 hrun
    refine lv_tableIn (off := 98) (tgt := 115) hx hb dX1_guest_17 (by rw [c_19]; decide) (by rw [c_19]; decide) (by rw [c_19]; rfl) (by decide) ?_
    refine lv_aload_n hx hb dX1_guest_115 rfl (lv_at hl 0 rfl) ?_
    refine lv_iload_n hx hb dX1_guest_116 rfl (lv_at hl 2 rfl) ?_
    obtain ⟨r_21, hc_20, hrun⟩ := mob_s rfl hrun
    refine cRV (As := [.int p1]) (ci := 2) ⟨hx, hb, hml, hown, hts⟩ hOK hz hS (hP.sub (ws' := (cW k aw sw)) [1, 2, 3, 4, 5, 6, 7, 8, 9] rfl) (mtX2_risk l D k aw Z hOK _ _ _ hc_20) (kX2_risk hts q587 rfl rfl ⟨Nat.le_of_ble_eq_true rfl, Nat.le_of_ble_eq_true rfl⟩) 0 rfl rfl rfl hl.1 rfl (lv_room (Nat.le_of_ble_eq_true rfl)) ⟨Nat.le_of_ble_eq_true rfl, Nat.le_of_ble_eq_true rfl⟩ dX1_guest_117 ?_
    cases hrun
    refine W.widen (k := 2) (n := 12) (Nat.le_of_ble_eq_true rfl) (Nat.le_of_ble_eq_true rfl) ?_
    exact vx_ret (retW_i hx hb hr hlocks hP hD hS ⟨_, _, rfl, rfl, rfl⟩ dX1_guest_120)
  have hrun := mif_n c_19 hrun
  by_cases c_22 : p2 = (6 : Int32)
  · have hrun := mif_p c_22 hrun
    refine lv_tableIn (off := 104) (tgt := 121) hx hb dX1_guest_17 (by rw [c_22]; decide) (by rw [c_22]; decide) (by rw [c_22]; rfl) (by decide) ?_
    refine lv_aload_n hx hb dX1_guest_121 rfl (lv_at hl 1 rfl) ?_
    refine lv_aload_n hx hb dX1_guest_122 rfl (lv_at hl 0 rfl) ?_
    refine lv_iload_n hx hb dX1_guest_123 rfl (lv_at hl 2 rfl) ?_
    obtain ⟨r_25, ssc_24, hc_23, hrun⟩ := mo2_s rfl hrun
    have hP : va_P D zCl ([] ++ (((cH k ah aw adr aim ard asc ath awl alo atr sh) ++ ((cW k aw sw) ++ (cS k asc ssc))) ++ P)) _ := hP
    have hD : va_D A ([] ++ (((cH k ah aw adr aim ard asc ath awl alo atr sh) ++ ((cW k aw sw) ++ (cS k asc ssc))) ++ P)) := hD
    refine cWVP [] (((cH k ah aw adr aim ard asc ath awl alo atr sh) ++ ((cW k aw sw) ++ (cS k asc ssc))) ++ P) (As := [.ref (aw 0), .int p1]) (ci := 1) ⟨hx, hb, hml, hown, hts⟩ hOK hz hS hA hP hD (mtX1_turnsBy l D k ah aw adr aim ard asc ath awl alo atr aw Z hOK hFa hFw P Sm hPl _ _ _ _ _ _ hc_23) (kX1_turnsBy hts q452 rfl rfl ⟨Nat.le_of_ble_eq_true rfl, Nat.le_of_ble_eq_true rfl⟩) 0 rfl rfl rfl hl.1 rfl (lv_room (Nat.le_of_ble_eq_true rfl)) ⟨Nat.le_of_ble_eq_true rfl, Nat.le_of_ble_eq_true rfl⟩ dX1_guest_124 (fun r_ w_ H locs hq hP hD hS => ?_)
    obtain ⟨rfl, rfl⟩ := hq
    have hP : va_P D zCl (((cH k ah aw adr aim ard asc ath awl alo atr sh) ++ ((cW k aw sw) ++ (cS k asc ssc_24))) ++ P) _ := hP
    have hD : va_D A (((cH k ah aw adr aim ard asc ath awl alo atr sh) ++ ((cW k aw sw) ++ (cS k asc ssc_24))) ++ P) := hD
    cases hrun
    refine W.widen (k := 2) (n := 12) (Nat.le_of_ble_eq_true rfl) (Nat.le_of_ble_eq_true rfl) ?_
    exact vx_ret (retW_i hx hb hr hlocks hP hD hS ⟨_, _, rfl, rfl, rfl⟩ dX1_guest_127)
  have hrun := mif_n c_22 hrun
  by_cases c_26 : p2 = (7 : Int32)
  · have hrun := mif_p c_26 hrun
    refine lv_tableIn (off := 111) (tgt := 128) hx hb dX1_guest_17 (by rw [c_26]; decide) (by rw [c_26]; decide) (by rw [c_26]; rfl) (by decide) ?_
    refine lv_aload_n hx hb dX1_guest_128 rfl (lv_at hl 0 rfl) ?_
    refine lv_aload_n hx hb dX1_guest_129 rfl (lv_at hl 0 rfl) ?_
    refine va_getN (ci := 2) (v := .ref (aw 2)) (C := RX2) (T := TX2) (N := 21) hx hb hts in_X2 hown hK hP 1 rfl rfl 13 (by decide) (va_Nw.use rfl (hN _ (zN_of q192 rfl))) (fun _ h9 => h9) rfl dX1_guest_130 ?_
    refine lv_iload_n hx hb dX1_guest_133 rfl (lv_at hl 2 rfl) ?_
    obtain ⟨hb_27, hrun⟩ := mck_s rfl hrun
    refine va_iald hx hb hK hP 3 0 rfl rfl hb_27 dX1_guest_134 ?_
    refine lv_aload_n hx hb dX1_guest_135 rfl (lv_at hl 0 rfl) ?_
    refine va_getN (ci := 2) (v := .ref (aw 5)) (C := RX2) (T := TX2) (N := 21) hx hb hts in_X2 hown hK hP 1 rfl rfl 16 (by decide) (va_Nw.use rfl (hN _ (zN_of q199 rfl))) (fun _ h9 => h9) rfl dX1_guest_136 ?_
    refine lv_iload_n hx hb dX1_guest_139 rfl (lv_at hl 2 rfl) ?_
    obtain ⟨hb_28, hrun⟩ := mck_s rfl hrun
    refine va_zald hx hb hK hP 6 1 rfl rfl hb_28 dX1_guest_140 ?_
    obtain ⟨r_30, hc_29, hrun⟩ := mob_s rfl hrun
    refine cRV (As := [.int ((wd_room sw) (Int32.toNatClampNeg p1)), .int (bz ((wd_key sw) (Int32.toNatClampNeg p1)))]) (ci := 2) ⟨hx, hb, hml, hown, hts⟩ hOK hz hS (hP.sub (ws' := (cW k aw sw)) [1, 2, 3, 4, 5, 6, 7, 8, 9] rfl) (mtX2_spies l D k aw Z hOK _ _ _ _ hc_29) (kX2_spies hts q634 rfl rfl ⟨Nat.le_of_ble_eq_true rfl, Nat.le_of_ble_eq_true rfl⟩) 0 rfl rfl rfl hl.1 rfl (lv_room (Nat.le_of_ble_eq_true rfl)) ⟨Nat.le_of_ble_eq_true rfl, Nat.le_of_ble_eq_true rfl⟩ dX1_guest_141 ?_
    cases hrun
    refine W.widen (k := 2) (n := 12) (Nat.le_of_ble_eq_true rfl) (Nat.le_of_ble_eq_true rfl) ?_
    exact vx_ret (retW_i hx hb hr hlocks hP hD hS ⟨_, _, rfl, rfl, rfl⟩ dX1_guest_144)
  have hrun := mif_n c_26 hrun
  refine lv_tableOut (tgt := 145) hx hb dX1_guest_17 (tOut p2 7 (fun k hk => match k, hk with | 0, _ => c_7 | 1, _ => c_9 | 2, _ => c_11 | 3, _ => c_13 | 4, _ => c_16 | 5, _ => c_19 | 6, _ => c_22 | 7, _ => c_26 | k + 8, hk => absurd hk (by omega))) (by decide) ?_
  refine lv_aload_n hx hb dX1_guest_145 rfl (lv_at hl 1 rfl) ?_
  refine lv_iload_n hx hb dX1_guest_146 rfl (lv_at hl 2 rfl) ?_
  obtain ⟨r_32, hc_31, hrun⟩ := mob_s rfl hrun
  refine cRV (As := [.int p1]) (ci := 1) ⟨hx, hb, hml, hown, hts⟩ hOK hz hS (hP.sub (ws' := ((cH k ah aw adr aim ard asc ath awl alo atr sh) ++ (cW k aw sw))) [0, 1, 2, 3, 4, 5, 6, 7, 8, 9] rfl) (mtX1_shareOf l D k ah aw adr aim ard asc ath awl alo atr Z hOK _ _ _ _ hc_31) (kX1_shareOf hts q1592 rfl rfl ⟨Nat.le_of_ble_eq_true rfl, Nat.le_of_ble_eq_true rfl⟩) 0 rfl rfl rfl hl.1 rfl (lv_room (Nat.le_of_ble_eq_true rfl)) ⟨Nat.le_of_ble_eq_true rfl, Nat.le_of_ble_eq_true rfl⟩ dX1_guest_147 ?_
  cases hrun
  refine W.widen (k := 2) (n := 12) (Nat.le_of_ble_eq_true rfl) (Nat.le_of_ble_eq_true rfl) ?_
  exact vx_ret (retW_i hx hb hr hlocks hP hD hS ⟨_, _, rfl, rfl, rfl⟩ dX1_guest_150)
def rX1_aDay : Room := { frames := 30, cells := 0, slots := 0, locals := 1047 }
noncomputable def fX1_aDay (Sm : zSem) (sh : Kp) (su : Wd) (ssc : Sc) : Option (Wd × Sc) :=
  mob (fX1_allTurn Sm sh su ssc) fun q_4 =>
  mob (fX2_isSaturday (q_4.1) (wd_kept (q_4.1)) (wd_day (q_4.1))) fun r_6 =>
  mjn (fun (su_9 : Wd) =>
  mob (fX2_builds su_9) fun su_12 =>
  mo2 (fX2_draw su_12 (100 : Int32)) fun r_15 su_14 =>
  mjn (fun (su_18 : Wd) =>
  mob (fX2_ends su_18) fun su_21 =>
  some (su_21, (q_4.2))) fun K_19 =>
  if (wd_bore su_14) ≤ r_15 then
    K_19 su_14
  else
    mo2 (fX2_draw su_14 (8 : Int32)) fun r_24 su_23 =>
    mck r_24 8 <|
    mck r_24 8 <|
    mlt (wd_s_holes su_23 (upd (wd_holes su_23) (Int32.toNatClampNeg r_24) (((wd_holes su_23) (Int32.toNatClampNeg r_24)) ||| ((1 : Int32) <<< ((mrm (r_24 + (1 : Int32)) (8 : Int32)) &&& (31 : Int32)))))) fun su_27 =>
    K_19 su_27) fun K_10 =>
  if r_6 = true then
    mob (fX1_allLook (q_4.1)) fun su_29 =>
    K_10 su_29
  else
    K_10 (q_4.1)
theorem kX1_aDay {R : Room} {s : State} {args : Array Value} {own : String} {idx mc ms : Nat} {rm : Room} (hts : ∀ w ∈ lw_all, w.before args s = true) (hl : Cond.methodLink own idx yX1_aDay ∈ lw_all) (hrc : rm.cells = mc) (hrs : rm.slots = ms) (hR : rm.frames + 1 ≤ R.frames ∧ 8 + (3 + 11) + rm.locals ≤ R.locals) : CallW R s args own RX1 idx yX1_aDay cX1_aDay 3 none (ws_ yX1_aDay cX1_aDay 3 none) rm mc ms 1 :=
  cwV 1 hts (lw_V hl q1707 qs38 q107 q1708) rfl hrc hrs (by decide +kernel) hR
set_option maxHeartbeats 4000000 in
set_option maxRecDepth 100000 in
theorem mtX1_aDay (l : Launch) (D : va_G) (k : Nat → ClassId) (ah : Nat → Nat) (aw : Nat → Nat) (adr : Nat → Nat) (aim : Nat → Nat) (ard : Nat → Nat) (asc : Nat → Nat) (ath : Nat → Nat) (awl : Nat → Nat) (alo : Nat → Nat) (atr : Nat → Nat) (au : Nat → Nat) (Z : zZ) (hOK : zOK D zCl (zTys k) Z) {e0 : Nat} {aF : Nat → Nat} (hFa : zFa Z aF) (hFw : zFw Z) (P : va_W) (Sm : zSem) (hPl : zPl k e0 aF P Sm) (sh : Kp) (su : Wd) (ssc : Sc) (ou : Wd) (osc : Sc) (hrun : fX1_aDay Sm sh su ssc = some (ou, osc)) :
    CtW l yX1_aDay cX1_aDay 3 none rX1_aDay Z D zCl (((cH k ah aw adr aim ard asc ath awl alo atr sh) ++ ((cW k au su) ++ (cS k asc ssc))) ++ P) [.ref (ah 0), .ref (au 0)] (fun r' w' => r' = none ∧ w' = (((cH k ah aw adr aim ard asc ath awl alo atr sh) ++ ((cW k au ou) ++ (cS k asc osc))) ++ P)) 0 0 := by
  refine CtW.of (by decide) (Nat.le_of_ble_eq_true rfl) ?_
  intro p e s m args below meth c A hE hA hP hD hS hz ls hl
  obtain ⟨hx, hb, hr, hml, hown, hts, hlocks, hname⟩ := hE
  have hown : s.vm.findClass RX1 = some m.cls := hown
  have hK := hOK.1 _ _ _ hz
  have hN := hOK.2.1 _ _ _ hz
  have hl : lv_has ls 3 [(0, .ref (ah 0)), (1, .ref (au 0))] := hl
  unfold fX1_aDay at hrun
  refine lv_aload_n hx hb dX1_aDay_0 rfl (lv_at hl 0 rfl) ?_
  refine lv_aload_n hx hb dX1_aDay_1 rfl (lv_at hl 1 rfl) ?_
  obtain ⟨⟨su_2, ssc_3⟩, hc_1, hrun⟩ := mob_s rfl hrun
  have hP : va_P D zCl ([] ++ (((cH k ah aw adr aim ard asc ath awl alo atr sh) ++ ((cW k au su) ++ (cS k asc ssc))) ++ P)) _ := hP
  have hD : va_D A ([] ++ (((cH k ah aw adr aim ard asc ath awl alo atr sh) ++ ((cW k au su) ++ (cS k asc ssc))) ++ P)) := hD
  refine cWVP [] (((cH k ah aw adr aim ard asc ath awl alo atr sh) ++ ((cW k au su) ++ (cS k asc ssc))) ++ P) (As := [.ref (au 0)]) (ci := 1) ⟨hx, hb, hml, hown, hts⟩ hOK hz hS hA hP hD (mtX1_allTurn l D k ah aw adr aim ard asc ath awl alo atr au Z hOK hFa hFw P Sm hPl _ _ _ _ _ hc_1) (kX1_allTurn hts q448 rfl rfl ⟨Nat.le_of_ble_eq_true rfl, Nat.le_of_ble_eq_true rfl⟩) 0 rfl rfl rfl hl.1 rfl (lv_room (Nat.le_of_ble_eq_true rfl)) ⟨Nat.le_of_ble_eq_true rfl, Nat.le_of_ble_eq_true rfl⟩ dX1_aDay_2 (fun r_ w_ H locs hq hP hD hS => ?_)
  obtain ⟨rfl, rfl⟩ := hq
  have hP : va_P D zCl (((cH k ah aw adr aim ard asc ath awl alo atr sh) ++ ((cW k au su_2) ++ (cS k asc ssc_3))) ++ P) _ := hP
  have hD : va_D A (((cH k ah aw adr aim ard asc ath awl alo atr sh) ++ ((cW k au su_2) ++ (cS k asc ssc_3))) ++ P) := hD
  refine lv_aload_n hx hb dX1_aDay_5 rfl (lv_at hl 1 rfl) ?_
  refine lv_aload_n hx hb dX1_aDay_6 rfl (lv_at hl 1 rfl) ?_
  refine va_getN (ci := 2) (v := .int (wd_kept su_2)) (C := RX2) (T := TX2) (N := 21) hx hb hts in_X2 hown hK hP 1 rfl rfl 4 (by decide) (va_Nw.use rfl (hN _ (zN_of q173 rfl))) (fun _ h9 => h9) rfl dX1_aDay_7 ?_
  refine lv_aload_n hx hb dX1_aDay_10 rfl (lv_at hl 1 rfl) ?_
  refine va_getN (ci := 2) (v := .int (wd_day su_2)) (C := RX2) (T := TX2) (N := 21) hx hb hts in_X2 hown hK hP 1 rfl rfl 2 (by decide) (va_Nw.use rfl (hN _ (zN_of q168 rfl))) (fun _ h9 => h9) rfl dX1_aDay_11 ?_
  obtain ⟨r_6, hc_5, hrun⟩ := mob_s rfl hrun
  refine cRV (As := [.int (wd_kept su_2), .int (wd_day su_2)]) (ci := 2) ⟨hx, hb, hml, hown, hts⟩ hOK hz hS (hP.sub (ws' := (cW k au su_2)) [1, 2, 3, 4, 5, 6, 7, 8, 9] rfl) (mtX2_isSaturday l D k au Z hOK _ _ _ _ hc_5) (kX2_isSaturday hts q426 rfl rfl ⟨Nat.le_of_ble_eq_true rfl, Nat.le_of_ble_eq_true rfl⟩) 0 rfl rfl rfl hl.1 rfl (lv_room (Nat.le_of_ble_eq_true rfl)) ⟨Nat.le_of_ble_eq_true rfl, Nat.le_of_ble_eq_true rfl⟩ dX1_aDay_14 ?_
  obtain ⟨K_10, hK_10, hrun⟩ := mjn_s hrun
  have hj_8 : ∀ (su_9 : Wd), ∀ (H : Heap) (locs : List Loc), va_P D zCl (((cH k ah aw adr aim ard asc ath awl alo atr sh) ++ ((cW k au su_9) ++ (cS k asc ssc_3))) ++ P) H → va_D A (((cH k ah aw adr aim ard asc ath awl alo atr sh) ++ ((cW k au su_9) ++ (cS k asc ssc_3))) ++ P) → va_S A s.heap H locs → ∀ ls : Array Slot, lv_has ls 3 [(1, .ref (au 0))] → K_10 su_9 = some (ou, osc) → W p l e rX1_aDay s m args below meth c H locs 0 0 (MQ below (QWr (fun r' w' => r' = none ∧ w' = (((cH k ah aw adr aim ard asc ath awl alo atr sh) ++ ((cW k au ou) ++ (cS k asc osc))) ++ P)) D zCl A) args s 0 0 A) (F0 m 24 ls []) := by
    intro su_9 H locs hP hD hS ls hl hrun
    rw [hK_10] at hrun
    refine lv_aload_n hx hb dX1_aDay_24 rfl (lv_at hl 0 rfl) ?_
    obtain ⟨su_12, hc_11, hrun⟩ := mob_s rfl hrun
    have hP := zsubT (w' := (cW k au su_9) ++ ((cH k ah aw adr aim ard asc ath awl alo atr sh) ++ (cS k asc ssc_3))) hP [1, 2, 3, 4, 5, 6, 7, 8, 9, 0, 10] rfl
    have hD := zsubTD (w' := (cW k au su_9) ++ ((cH k ah aw adr aim ard asc ath awl alo atr sh) ++ (cS k asc ssc_3))) hD [1, 2, 3, 4, 5, 6, 7, 8, 9, 0, 10] (by decide) rfl
    have hP : va_P D zCl ([] ++ ((cW k au su_9) ++ (((cH k ah aw adr aim ard asc ath awl alo atr sh) ++ (cS k asc ssc_3)) ++ P))) _ := hP
    have hD : va_D A ([] ++ ((cW k au su_9) ++ (((cH k ah aw adr aim ard asc ath awl alo atr sh) ++ (cS k asc ssc_3)) ++ P))) := hD
    refine cWV [] (cW k au su_9) (((cH k ah aw adr aim ard asc ath awl alo atr sh) ++ (cS k asc ssc_3)) ++ P) (As := []) (ci := 2) ⟨hx, hb, hml, hown, hts⟩ hOK hz hS hA hP hD (mtX2_builds l D k au Z hOK _ _ hc_11) (kX2_builds hts q555 rfl rfl ⟨Nat.le_of_ble_eq_true rfl, Nat.le_of_ble_eq_true rfl⟩) 0 rfl rfl rfl hl.1 rfl (lv_room (Nat.le_of_ble_eq_true rfl)) ⟨Nat.le_of_ble_eq_true rfl, Nat.le_of_ble_eq_true rfl⟩ dX1_aDay_25 (fun r_ w_ H locs hq hP hD hS => ?_)
    obtain ⟨rfl, rfl⟩ := hq
    have hP : va_P D zCl (((cW k au su_12) ++ ((cH k ah aw adr aim ard asc ath awl alo atr sh) ++ (cS k asc ssc_3))) ++ P) _ := hP
    have hD : va_D A (((cW k au su_12) ++ ((cH k ah aw adr aim ard asc ath awl alo atr sh) ++ (cS k asc ssc_3))) ++ P) := hD
    have hP := zsubT (w' := ((cH k ah aw adr aim ard asc ath awl alo atr sh) ++ ((cW k au su_12) ++ (cS k asc ssc_3)))) hP [9, 0, 1, 2, 3, 4, 5, 6, 7, 8, 10] rfl
    have hD := zsubTD (w' := ((cH k ah aw adr aim ard asc ath awl alo atr sh) ++ ((cW k au su_12) ++ (cS k asc ssc_3)))) hD [9, 0, 1, 2, 3, 4, 5, 6, 7, 8, 10] (by decide) rfl
    refine lv_aload_n hx hb dX1_aDay_28 rfl (lv_at hl 0 rfl) ?_
    refine lv_bipush (v := (100 : Int32)) hx hb dX1_aDay_29 (by decide) ?_
    obtain ⟨r_15, su_14, hc_13, hrun⟩ := mo2_s rfl hrun
    have hP := zsubT (w' := (cW k au su_12) ++ ((cH k ah aw adr aim ard asc ath awl alo atr sh) ++ (cS k asc ssc_3))) hP [1, 2, 3, 4, 5, 6, 7, 8, 9, 0, 10] rfl
    have hD := zsubTD (w' := (cW k au su_12) ++ ((cH k ah aw adr aim ard asc ath awl alo atr sh) ++ (cS k asc ssc_3))) hD [1, 2, 3, 4, 5, 6, 7, 8, 9, 0, 10] (by decide) rfl
    have hP : va_P D zCl ([] ++ ((cW k au su_12) ++ (((cH k ah aw adr aim ard asc ath awl alo atr sh) ++ (cS k asc ssc_3)) ++ P))) _ := hP
    have hD : va_D A ([] ++ ((cW k au su_12) ++ (((cH k ah aw adr aim ard asc ath awl alo atr sh) ++ (cS k asc ssc_3)) ++ P))) := hD
    refine cWV [] (cW k au su_12) (((cH k ah aw adr aim ard asc ath awl alo atr sh) ++ (cS k asc ssc_3)) ++ P) (As := [.int (100 : Int32)]) (ci := 2) ⟨hx, hb, hml, hown, hts⟩ hOK hz hS hA hP hD (mtX2_draw l D k au Z hOK _ _ _ _ hc_13) (kX2_draw hts q1712 rfl rfl ⟨Nat.le_of_ble_eq_true rfl, Nat.le_of_ble_eq_true rfl⟩) 0 rfl rfl rfl hl.1 rfl (lv_room (Nat.le_of_ble_eq_true rfl)) ⟨Nat.le_of_ble_eq_true rfl, Nat.le_of_ble_eq_true rfl⟩ dX1_aDay_31 (fun r_ w_ H locs hq hP hD hS => ?_)
    obtain ⟨rfl, rfl⟩ := hq
    have hP : va_P D zCl (((cW k au su_14) ++ ((cH k ah aw adr aim ard asc ath awl alo atr sh) ++ (cS k asc ssc_3))) ++ P) _ := hP
    have hD : va_D A (((cW k au su_14) ++ ((cH k ah aw adr aim ard asc ath awl alo atr sh) ++ (cS k asc ssc_3))) ++ P) := hD
    have hP := zsubT (w' := ((cH k ah aw adr aim ard asc ath awl alo atr sh) ++ ((cW k au su_14) ++ (cS k asc ssc_3)))) hP [9, 0, 1, 2, 3, 4, 5, 6, 7, 8, 10] rfl
    have hD := zsubTD (w' := ((cH k ah aw adr aim ard asc ath awl alo atr sh) ++ ((cW k au su_14) ++ (cS k asc ssc_3)))) hD [9, 0, 1, 2, 3, 4, 5, 6, 7, 8, 10] (by decide) rfl
    refine lv_aload_n hx hb dX1_aDay_34 rfl (lv_at hl 0 rfl) ?_
    refine va_getN (ci := 2) (v := .int (wd_bore su_14)) (C := RX2) (T := TX2) (N := 21) hx hb hts in_X2 hown hK hP 1 rfl rfl 8 (by decide) (va_Nw.use rfl (hN _ (zN_of q181 rfl))) (fun _ h9 => h9) rfl dX1_aDay_35 ?_
    obtain ⟨K_19, hK_19, hrun⟩ := mjn_s hrun
    have hj_17 : ∀ (su_18 : Wd), ∀ (H : Heap) (locs : List Loc), va_P D zCl (((cH k ah aw adr aim ard asc ath awl alo atr sh) ++ ((cW k au su_18) ++ (cS k asc ssc_3))) ++ P) H → va_D A (((cH k ah aw adr aim ard asc ath awl alo atr sh) ++ ((cW k au su_18) ++ (cS k asc ssc_3))) ++ P) → va_S A s.heap H locs → ∀ ls : Array Slot, lv_has ls 3 [(1, .ref (au 0))] → K_19 su_18 = some (ou, osc) → W p l e rX1_aDay s m args below meth c H locs 0 0 (MQ below (QWr (fun r' w' => r' = none ∧ w' = (((cH k ah aw adr aim ard asc ath awl alo atr sh) ++ ((cW k au ou) ++ (cS k asc osc))) ++ P)) D zCl A) args s 0 0 A) (F0 m 65 ls []) := by
      intro su_18 H locs hP hD hS ls hl hrun
      rw [hK_19] at hrun
      refine lv_aload_n hx hb dX1_aDay_65 rfl (lv_at hl 0 rfl) ?_
      obtain ⟨su_21, hc_20, hrun⟩ := mob_s rfl hrun
      have hP := zsubT (w' := (cW k au su_18) ++ ((cH k ah aw adr aim ard asc ath awl alo atr sh) ++ (cS k asc ssc_3))) hP [1, 2, 3, 4, 5, 6, 7, 8, 9, 0, 10] rfl
      have hD := zsubTD (w' := (cW k au su_18) ++ ((cH k ah aw adr aim ard asc ath awl alo atr sh) ++ (cS k asc ssc_3))) hD [1, 2, 3, 4, 5, 6, 7, 8, 9, 0, 10] (by decide) rfl
      have hP : va_P D zCl ([] ++ ((cW k au su_18) ++ (((cH k ah aw adr aim ard asc ath awl alo atr sh) ++ (cS k asc ssc_3)) ++ P))) _ := hP
      have hD : va_D A ([] ++ ((cW k au su_18) ++ (((cH k ah aw adr aim ard asc ath awl alo atr sh) ++ (cS k asc ssc_3)) ++ P))) := hD
      refine cWV [] (cW k au su_18) (((cH k ah aw adr aim ard asc ath awl alo atr sh) ++ (cS k asc ssc_3)) ++ P) (As := []) (ci := 2) ⟨hx, hb, hml, hown, hts⟩ hOK hz hS hA hP hD (mtX2_ends l D k au Z hOK _ _ hc_20) (kX2_ends hts q559 rfl rfl ⟨Nat.le_of_ble_eq_true rfl, Nat.le_of_ble_eq_true rfl⟩) 0 rfl rfl rfl hl.1 rfl (lv_room (Nat.le_of_ble_eq_true rfl)) ⟨Nat.le_of_ble_eq_true rfl, Nat.le_of_ble_eq_true rfl⟩ dX1_aDay_66 (fun r_ w_ H locs hq hP hD hS => ?_)
      obtain ⟨rfl, rfl⟩ := hq
      have hP : va_P D zCl (((cW k au su_21) ++ ((cH k ah aw adr aim ard asc ath awl alo atr sh) ++ (cS k asc ssc_3))) ++ P) _ := hP
      have hD : va_D A (((cW k au su_21) ++ ((cH k ah aw adr aim ard asc ath awl alo atr sh) ++ (cS k asc ssc_3))) ++ P) := hD
      have hP := zsubT (w' := ((cH k ah aw adr aim ard asc ath awl alo atr sh) ++ ((cW k au su_21) ++ (cS k asc ssc_3)))) hP [9, 0, 1, 2, 3, 4, 5, 6, 7, 8, 10] rfl
      have hD := zsubTD (w' := ((cH k ah aw adr aim ard asc ath awl alo atr sh) ++ ((cW k au su_21) ++ (cS k asc ssc_3)))) hD [9, 0, 1, 2, 3, 4, 5, 6, 7, 8, 10] (by decide) rfl
      cases hrun
      exact retW_v hx hb hr hlocks hP hD hS ⟨rfl, rfl⟩ dX1_aDay_69
    refine lv_icmp_ge (tgt := 65) hx hb dX1_aDay_38 (by decide) (fun c_16 => ?_) (fun c_16 => ?_)
    · have hrun := mif_p c_16 hrun
      exact hj_17 su_14 _ _ hP hD hS ls (lv_sub hl [0] rfl) hrun
    have hrun := mif_n c_16 hrun
    refine lv_aload_n hx hb dX1_aDay_41 rfl (lv_at hl 0 rfl) ?_
    refine lv_bipush (v := (8 : Int32)) hx hb dX1_aDay_42 (by decide) ?_
    obtain ⟨r_24, su_23, hc_22, hrun⟩ := mo2_s rfl hrun
    have hP := zsubT (w' := (cW k au su_14) ++ ((cH k ah aw adr aim ard asc ath awl alo atr sh) ++ (cS k asc ssc_3))) hP [1, 2, 3, 4, 5, 6, 7, 8, 9, 0, 10] rfl
    have hD := zsubTD (w' := (cW k au su_14) ++ ((cH k ah aw adr aim ard asc ath awl alo atr sh) ++ (cS k asc ssc_3))) hD [1, 2, 3, 4, 5, 6, 7, 8, 9, 0, 10] (by decide) rfl
    have hP : va_P D zCl ([] ++ ((cW k au su_14) ++ (((cH k ah aw adr aim ard asc ath awl alo atr sh) ++ (cS k asc ssc_3)) ++ P))) _ := hP
    have hD : va_D A ([] ++ ((cW k au su_14) ++ (((cH k ah aw adr aim ard asc ath awl alo atr sh) ++ (cS k asc ssc_3)) ++ P))) := hD
    refine cWV [] (cW k au su_14) (((cH k ah aw adr aim ard asc ath awl alo atr sh) ++ (cS k asc ssc_3)) ++ P) (As := [.int (8 : Int32)]) (ci := 2) ⟨hx, hb, hml, hown, hts⟩ hOK hz hS hA hP hD (mtX2_draw l D k au Z hOK _ _ _ _ hc_22) (kX2_draw hts q1712 rfl rfl ⟨Nat.le_of_ble_eq_true rfl, Nat.le_of_ble_eq_true rfl⟩) 0 rfl rfl rfl hl.1 rfl (lv_room (Nat.le_of_ble_eq_true rfl)) ⟨Nat.le_of_ble_eq_true rfl, Nat.le_of_ble_eq_true rfl⟩ dX1_aDay_44 (fun r_ w_ H locs hq hP hD hS => ?_)
    obtain ⟨rfl, rfl⟩ := hq
    have hP : va_P D zCl (((cW k au su_23) ++ ((cH k ah aw adr aim ard asc ath awl alo atr sh) ++ (cS k asc ssc_3))) ++ P) _ := hP
    have hD : va_D A (((cW k au su_23) ++ ((cH k ah aw adr aim ard asc ath awl alo atr sh) ++ (cS k asc ssc_3))) ++ P) := hD
    have hP := zsubT (w' := ((cH k ah aw adr aim ard asc ath awl alo atr sh) ++ ((cW k au su_23) ++ (cS k asc ssc_3)))) hP [9, 0, 1, 2, 3, 4, 5, 6, 7, 8, 10] rfl
    have hD := zsubTD (w' := ((cH k ah aw adr aim ard asc ath awl alo atr sh) ++ ((cW k au su_23) ++ (cS k asc ssc_3)))) hD [9, 0, 1, 2, 3, 4, 5, 6, 7, 8, 10] (by decide) rfl
    refine lv_istore_n (lv' := [(2, .int r_24), (1, .ref (au 0))]) hx hb dX1_aDay_47 rfl hl (by decide) rfl (fun ls hl => ?_)
    refine lv_aload_n hx hb dX1_aDay_48 rfl (lv_at hl 1 rfl) ?_
    refine va_getN (ci := 2) (v := .ref (au 7)) (C := RX2) (T := TX2) (N := 21) hx hb hts in_X2 hown hK hP 1 rfl rfl 18 (by decide) (va_Nw.use rfl (hN _ (zN_of q204 rfl))) (fun _ h9 => h9) rfl dX1_aDay_49 ?_
    refine lv_iload_n hx hb dX1_aDay_52 rfl (lv_at hl 0 rfl) ?_
    refine lv_dup2_11 hx hb dX1_aDay_53 rfl rfl ?_
    obtain ⟨hb_25, hrun⟩ := mck_s rfl hrun
    refine va_iald hx hb hK hP 8 0 rfl rfl hb_25 dX1_aDay_54 ?_
    refine lv_iconst (v := (1 : Int32)) hx hb dX1_aDay_55 (by decide) ?_
    refine lv_iload_n hx hb dX1_aDay_56 rfl (lv_at hl 0 rfl) ?_
    refine lv_iconst (v := (1 : Int32)) hx hb dX1_aDay_57 (by decide) ?_
    refine lv_iadd hx hb dX1_aDay_58 ?_
    refine lv_bipush (v := (8 : Int32)) hx hb dX1_aDay_59 (by decide) ?_
    refine lv_irem hx hb dX1_aDay_61 (by decide) ?_
    refine lv_ishl hx hb dX1_aDay_62 ?_
    refine lv_ior hx hb dX1_aDay_63 ?_
    obtain ⟨hb_26, hrun⟩ := mck_s rfl hrun
    refine va_iast hx hb hK hP hD hS 8 0 rfl rfl hb_26 dX1_aDay_64 (fun H locs hP hD hS => ?_)
    have hP : va_P D zCl (((cH k ah aw adr aim ard asc ath awl alo atr sh) ++ ((cW k au (wd_s_holes su_23 (upd (wd_holes su_23) (Int32.toNatClampNeg r_24) (((wd_holes su_23) (Int32.toNatClampNeg r_24)) ||| ((1 : Int32) <<< ((mrm (r_24 + (1 : Int32)) (8 : Int32)) &&& (31 : Int32))))))) ++ (cS k asc ssc_3))) ++ P) _ := hP
    have hD : va_D A (((cH k ah aw adr aim ard asc ath awl alo atr sh) ++ ((cW k au (wd_s_holes su_23 (upd (wd_holes su_23) (Int32.toNatClampNeg r_24) (((wd_holes su_23) (Int32.toNatClampNeg r_24)) ||| ((1 : Int32) <<< ((mrm (r_24 + (1 : Int32)) (8 : Int32)) &&& (31 : Int32))))))) ++ (cS k asc ssc_3))) ++ P) := hD
    obtain ⟨su_27, esu_27⟩ : ∃ z : Wd, z = (wd_s_holes su_23 (upd (wd_holes su_23) (Int32.toNatClampNeg r_24) (((wd_holes su_23) (Int32.toNatClampNeg r_24)) ||| ((1 : Int32) <<< ((mrm (r_24 + (1 : Int32)) (8 : Int32)) &&& (31 : Int32)))))) := ⟨_, rfl⟩
    rw [← esu_27] at hP hD
    have hrun := mlt_s hrun su_27 esu_27
    exact hj_17 su_27 _ _ hP hD hS ls (lv_sub hl [1] rfl) hrun
  refine lv_if_eq (tgt := 24) hx hb dX1_aDay_17 (by decide) (fun c_7 => ?_) (fun c_7 => ?_)
  · have hrun := mif_n (bz_z c_7) hrun
    exact hj_8 su_2 _ _ hP hD hS ls (lv_sub hl [1] rfl) hrun
  have hrun := mif_p (bz_nz c_7) hrun
  refine lv_aload_n hx hb dX1_aDay_20 rfl (lv_at hl 1 rfl) ?_
  obtain ⟨su_29, hc_28, hrun⟩ := mob_s rfl hrun
  have hP := zsubT (w' := (cW k au su_2) ++ ((cH k ah aw adr aim ard asc ath awl alo atr sh) ++ (cS k asc ssc_3))) hP [1, 2, 3, 4, 5, 6, 7, 8, 9, 0, 10] rfl
  have hD := zsubTD (w' := (cW k au su_2) ++ ((cH k ah aw adr aim ard asc ath awl alo atr sh) ++ (cS k asc ssc_3))) hD [1, 2, 3, 4, 5, 6, 7, 8, 9, 0, 10] (by decide) rfl
  have hP : va_P D zCl ([] ++ ((cW k au su_2) ++ (((cH k ah aw adr aim ard asc ath awl alo atr sh) ++ (cS k asc ssc_3)) ++ P))) _ := hP
  have hD : va_D A ([] ++ ((cW k au su_2) ++ (((cH k ah aw adr aim ard asc ath awl alo atr sh) ++ (cS k asc ssc_3)) ++ P))) := hD
  refine cWS [] (cW k au su_2) (((cH k ah aw adr aim ard asc ath awl alo atr sh) ++ (cS k asc ssc_3)) ++ P) (As := [.ref (au 0)]) ⟨hx, hb, hml, hown, hts⟩ hOK hz hS hA hP hD (mtX1_allLook l D k au Z hOK _ _ hc_28) (kX1_allLook hts q1709 rfl rfl ⟨Nat.le_of_ble_eq_true rfl, Nat.le_of_ble_eq_true rfl⟩) rfl hl.1 rfl (lv_room (Nat.le_of_ble_eq_true rfl)) ⟨Nat.le_of_ble_eq_true rfl, Nat.le_of_ble_eq_true rfl⟩ dX1_aDay_21 (fun r_ w_ H locs hq hP hD hS => ?_)
  obtain ⟨rfl, rfl⟩ := hq
  have hP : va_P D zCl (((cW k au su_29) ++ ((cH k ah aw adr aim ard asc ath awl alo atr sh) ++ (cS k asc ssc_3))) ++ P) _ := hP
  have hD : va_D A (((cW k au su_29) ++ ((cH k ah aw adr aim ard asc ath awl alo atr sh) ++ (cS k asc ssc_3))) ++ P) := hD
  have hP := zsubT (w' := ((cH k ah aw adr aim ard asc ath awl alo atr sh) ++ ((cW k au su_29) ++ (cS k asc ssc_3)))) hP [9, 0, 1, 2, 3, 4, 5, 6, 7, 8, 10] rfl
  have hD := zsubTD (w' := ((cH k ah aw adr aim ard asc ath awl alo atr sh) ++ ((cW k au su_29) ++ (cS k asc ssc_3)))) hD [9, 0, 1, 2, 3, 4, 5, 6, 7, 8, 10] (by decide) rfl
  exact hj_8 su_29 _ _ hP hD hS ls (lv_sub hl [1] rfl) hrun
def rX1_tries : Room := { frames := 31, cells := 0, slots := 0, locals := 1069 }
noncomputable def fX1_tries_L2 (p1 : Int32) (Sm : zSem) (sh : Kp) : Nat → Int32 → Wd → Sc → Option (Wd × Sc)
  | 0, _, _, _ => none
  | n + 1, x2_2, str_3, ssc_4 =>
    if p1 ≤ x2_2 then
      some (str_3, ssc_4)
    else
      mob (fX1_aDay Sm sh str_3 ssc_4) fun q_9 =>
      fX1_tries_L2 p1 Sm sh n (x2_2 + (1 : Int32)) (q_9.1) (q_9.2)
noncomputable def fX1_tries (Sm : zSem) (sh : Kp) (str : Wd) (ssc : Sc) (p1 : Int32) : Option (Wd × Sc) :=
  fX1_tries_L2 p1 Sm sh mFU (0 : Int32) str ssc
theorem kX1_tries {R : Room} {s : State} {args : Array Value} {own : String} {idx mc ms : Nat} {rm : Room} (hts : ∀ w ∈ lw_all, w.before args s = true) (hl : Cond.methodLink own idx yX1_tries ∈ lw_all) (hrc : rm.cells = mc) (hrs : rm.slots = ms) (hR : rm.frames + 1 ≤ R.frames ∧ 8 + (3 + 11) + rm.locals ≤ R.locals) : CallW R s args own RX1 idx yX1_tries cX1_tries 3 none (ws_ yX1_tries cX1_tries 3 none) rm mc ms 1 :=
  cwV 1 hts (lw_V hl q1869 qs47 q107 q1870) rfl hrc hrs (by decide +kernel) hR
set_option maxHeartbeats 4000000 in
set_option maxRecDepth 100000 in
theorem mtX1_tries (l : Launch) (D : va_G) (k : Nat → ClassId) (ah : Nat → Nat) (aw : Nat → Nat) (adr : Nat → Nat) (aim : Nat → Nat) (ard : Nat → Nat) (asc : Nat → Nat) (ath : Nat → Nat) (awl : Nat → Nat) (alo : Nat → Nat) (atr : Nat → Nat) (Z : zZ) (hOK : zOK D zCl (zTys k) Z) {e0 : Nat} {aF : Nat → Nat} (hFa : zFa Z aF) (hFw : zFw Z) (P : va_W) (Sm : zSem) (hPl : zPl k e0 aF P Sm) (sh : Kp) (str : Wd) (ssc : Sc) (p1 : Int32) (otr : Wd) (osc : Sc) (hrun : fX1_tries Sm sh str ssc p1 = some (otr, osc)) :
    CtW l yX1_tries cX1_tries 3 none rX1_tries Z D zCl (((cH k ah aw adr aim ard asc ath awl alo atr sh) ++ ((cW k atr str) ++ (cS k asc ssc))) ++ P) [.ref (ah 0), .int p1] (fun r' w' => r' = none ∧ w' = (((cH k ah aw adr aim ard asc ath awl alo atr sh) ++ ((cW k atr otr) ++ (cS k asc osc))) ++ P)) 0 0 := by
  refine CtW.of (by decide) (Nat.le_of_ble_eq_true rfl) ?_
  intro p e s m args below meth c A hE hA hP hD hS hz ls hl
  obtain ⟨hx, hb, hr, hml, hown, hts, hlocks, hname⟩ := hE
  have hown : s.vm.findClass RX1 = some m.cls := hown
  have hK := hOK.1 _ _ _ hz
  have hN := hOK.2.1 _ _ _ hz
  have hl : lv_has ls 3 [(0, .ref (ah 0)), (1, .int p1)] := hl
  unfold fX1_tries at hrun
  refine lv_iconst (v := (0 : Int32)) hx hb dX1_tries_0 (by decide) ?_
  refine lv_istore_n (lv' := [(2, .int (0 : Int32)), (0, .ref (ah 0)), (1, .int p1)]) hx hb dX1_tries_1 rfl hl (by decide) rfl (fun ls hl => ?_)
  have hL_1 : ∀ n : Nat, ∀ (x2_2 : Int32) (str_3 : Wd) (ssc_4 : Sc), ∀ (H : Heap) (locs : List Loc), va_P D zCl (((cH k ah aw adr aim ard asc ath awl alo atr sh) ++ ((cW k atr str_3) ++ (cS k asc ssc_4))) ++ P) H → va_D A (((cH k ah aw adr aim ard asc ath awl alo atr sh) ++ ((cW k atr str_3) ++ (cS k asc ssc_4))) ++ P) → va_S A s.heap H locs → ∀ ls : Array Slot, lv_has ls 3 [(0, .ref (ah 0)), (1, .int p1), (2, .int x2_2)] → fX1_tries_L2 p1 Sm sh n x2_2 str_3 ssc_4 = some (otr, osc) → W p l e rX1_tries s m args below meth c H locs 0 0 (MQ below (QWr (fun r' w' => r' = none ∧ w' = (((cH k ah aw adr aim ard asc ath awl alo atr sh) ++ ((cW k atr otr) ++ (cS k asc osc))) ++ P)) D zCl A) args s 0 0 A) (F0 m 2 ls []) := by
    intro n
    induction n with
    | zero =>
      intro x2_2 str_3 ssc_4 H locs hP hD hS ls hl hrun
      exact nomatch hrun
    | succ n ih =>
      intro x2_2 str_3 ssc_4 H locs hP hD hS ls hl hrun
      rw [fX1_tries_L2.eq_2] at hrun
      refine lv_iload_n hx hb dX1_tries_2 rfl (lv_at hl 2 rfl) ?_
      refine lv_iload_n hx hb dX1_tries_3 rfl (lv_at hl 1 rfl) ?_
      refine lv_icmp_ge (tgt := 21) hx hb dX1_tries_4 (by decide) (fun c_5 => ?_) (fun c_5 => ?_)
      · have hrun := mif_p c_5 hrun
        cases hrun
        exact retW_v hx hb hr hlocks hP hD hS ⟨rfl, rfl⟩ dX1_tries_21
      have hrun := mif_n c_5 hrun
      refine lv_aload_n hx hb dX1_tries_7 rfl (lv_at hl 0 rfl) ?_
      refine lv_aload_n hx hb dX1_tries_8 rfl (lv_at hl 0 rfl) ?_
      refine va_get (ci := 1) (v := .ref (atr 0)) (C := RX1) (T := TX1) (N := 10) hx hb hts in_X1 hown hK hP 0 rfl rfl 9 (by decide) (hts _ q380) (fun _ h9 => h9) rfl dX1_tries_9 ?_
      obtain ⟨⟨str_7, ssc_8⟩, hc_6, hrun⟩ := mob_s rfl hrun
      have hP : va_P D zCl ([] ++ (((cH k ah aw adr aim ard asc ath awl alo atr sh) ++ ((cW k atr str_3) ++ (cS k asc ssc_4))) ++ P)) _ := hP
      have hD : va_D A ([] ++ (((cH k ah aw adr aim ard asc ath awl alo atr sh) ++ ((cW k atr str_3) ++ (cS k asc ssc_4))) ++ P)) := hD
      refine cWVP [] (((cH k ah aw adr aim ard asc ath awl alo atr sh) ++ ((cW k atr str_3) ++ (cS k asc ssc_4))) ++ P) (As := [.ref (atr 0)]) (ci := 1) ⟨hx, hb, hml, hown, hts⟩ hOK hz hS hA hP hD (mtX1_aDay l D k ah aw adr aim ard asc ath awl alo atr atr Z hOK hFa hFw P Sm hPl _ _ _ _ _ hc_6) (kX1_aDay hts q1705 rfl rfl ⟨Nat.le_of_ble_eq_true rfl, Nat.le_of_ble_eq_true rfl⟩) 0 rfl rfl rfl hl.1 rfl (lv_room (Nat.le_of_ble_eq_true rfl)) ⟨Nat.le_of_ble_eq_true rfl, Nat.le_of_ble_eq_true rfl⟩ dX1_tries_12 (fun r_ w_ H locs hq hP hD hS => ?_)
      obtain ⟨rfl, rfl⟩ := hq
      have hP : va_P D zCl (((cH k ah aw adr aim ard asc ath awl alo atr sh) ++ ((cW k atr str_7) ++ (cS k asc ssc_8))) ++ P) _ := hP
      have hD : va_D A (((cH k ah aw adr aim ard asc ath awl alo atr sh) ++ ((cW k atr str_7) ++ (cS k asc ssc_8))) ++ P) := hD
      refine lv_iinc (v := (x2_2 + (1 : Int32))) (lv' := [(2, .int (x2_2 + (1 : Int32))), (0, .ref (ah 0)), (1, .int p1)]) hx hb dX1_tries_15 hl (k := 2) rfl rfl (by decide) rfl (fun ls hl => ?_)
      refine lv_goto (tgt := 2) hx hb dX1_tries_18 (by decide) ?_
      exact ih (x2_2 + (1 : Int32)) str_7 ssc_8 _ _ hP hD hS ls (lv_sub hl [1, 2, 0] rfl) hrun
  exact hL_1 mFU (0 : Int32) str ssc _ _ hP hD hS ls (lv_sub hl [1, 2, 0] rfl) hrun
def rX1_trial : Room := { frames := 32, cells := 1, slots := 6, locals := 1091 }
noncomputable def fX1_trial (Sm : zSem) (sh : Kp) (sw : Wd) (str : Wd) (ssc : Sc) (p1 : Int32) (p2 : Bool) : Option ((String × Wd × Sc) ⊕ (Int32 × Wd × Sc)) :=
  mob (fX1_in p1 (0 : Int32) (60 : Int32)) fun r_2 =>
  mox (fX1_demand r_2) (fun E_5 => some (.inl (E_5, (str, ssc)))) fun _ =>
  mob (fX2_likens str sw) fun str_7 =>
  mob (fX1_tries Sm sh str_7 ssc p1) fun q_11 =>
  if p2 = true then
    mob (fX2_allHoles (q_11.1)) fun r_14 =>
    some (.inr (r_14, ((q_11.1), (q_11.2))))
  else
    some (.inr (((wd_seen (q_11.1)) - (wd_seen sw)), ((q_11.1), (q_11.2))))
theorem kX1_trial {R : Room} {s : State} {args : Array Value} {own : String} {idx mc ms : Nat} {rm : Room} (hts : ∀ w ∈ lw_all, w.before args s = true) (hl : Cond.methodLink own idx yX1_trial ∈ lw_all) (hrc : rm.cells = mc) (hrs : rm.slots = ms) (hR : rm.frames + 1 ≤ R.frames ∧ 8 + (3 + 11) + rm.locals ≤ R.locals) : CallW R s args own RX1 idx yX1_trial cX1_trial 3 (some .int) (ws_ yX1_trial cX1_trial 3 (some .int)) rm mc ms 2 :=
  cwV 2 hts (lw_V hl q1864 q1865 q107 q1866) rfl hrc hrs (by decide +kernel) hR
set_option maxHeartbeats 4000000 in
set_option maxRecDepth 100000 in
theorem mtX1_trial (l : Launch) (D : va_G) (k : Nat → ClassId) (ah : Nat → Nat) (aw : Nat → Nat) (adr : Nat → Nat) (aim : Nat → Nat) (ard : Nat → Nat) (asc : Nat → Nat) (ath : Nat → Nat) (awl : Nat → Nat) (alo : Nat → Nat) (atr : Nat → Nat) (Z : zZ) (hOK : zOK D zCl (zTys k) Z) (hlt : l.stackTraces = false) (hTh : zTh Z) {e0 : Nat} {aF : Nat → Nat} (hFa : zFa Z aF) (hFw : zFw Z) (P : va_W) (Sm : zSem) (hPl : zPl k e0 aF P Sm) (sh : Kp) (sw : Wd) (str : Wd) (ssc : Sc) (p1 : Int32) (p2 : Bool) (o : (String × Wd × Sc) ⊕ (Int32 × Wd × Sc)) (hrun : fX1_trial Sm sh sw str ssc p1 p2 = some o) :
    CtX l yX1_trial cX1_trial 3 (some .int) rX1_trial Z D zCl (((cH k ah aw adr aim ard asc ath awl alo atr sh) ++ ((cW k aw sw) ++ ((cW k atr str) ++ (cS k asc ssc)))) ++ P) [.ref (ah 0), .int p1, .int (bz p2)] (fun r' w' => ∃ (r : Int32) (otr : Wd) (osc : Sc), o = .inr (r, (otr, osc)) ∧ r' = (some (.int r)) ∧ w' = (((cH k ah aw adr aim ard asc ath awl alo atr sh) ++ ((cW k aw sw) ++ ((cW k atr otr) ++ (cS k asc osc)))) ++ P)) (fun E' w' => ∃ (otr : Wd) (osc : Sc), o = .inl (E', (otr, osc)) ∧ w' = (((cH k ah aw adr aim ard asc ath awl alo atr sh) ++ ((cW k aw sw) ++ ((cW k atr otr) ++ (cS k asc osc)))) ++ P)) 1 6 := by
  refine CtX.of (by decide) (Nat.le_of_ble_eq_true rfl) ?_
  intro p e s m args below meth c A hE hnoh hA hP hD hS hz ls hl
  obtain ⟨hx, hb, hr, hml, hown, hts, hlocks, hname⟩ := hE
  have hown : s.vm.findClass RX1 = some m.cls := hown
  have hK := hOK.1 _ _ _ hz
  have hN := hOK.2.1 _ _ _ hz
  have hl : lv_has ls 3 [(0, .ref (ah 0)), (1, .int p1), (2, .int (bz p2))] := hl
  unfold fX1_trial at hrun
  refine lv_iload_n hx hb dX1_trial_0 rfl (lv_at hl 1 rfl) ?_
  refine lv_iconst (v := (0 : Int32)) hx hb dX1_trial_1 (by decide) ?_
  refine lv_bipush (v := (60 : Int32)) hx hb dX1_trial_2 (by decide) ?_
  obtain ⟨r_2, hc_1, hrun⟩ := mob_s rfl hrun
  refine cRS (ws := []) (As := [.int p1, .int (0 : Int32), .int (60 : Int32)]) ⟨hx, hb, hml, hown, hts⟩ hOK hz hS zP0 (mtX1_in l D Z hOK _ _ _ _ hc_1) (kX1_in hts q647 rfl rfl ⟨Nat.le_of_ble_eq_true rfl, Nat.le_of_ble_eq_true rfl⟩) rfl hl.1 rfl (lv_room (Nat.le_of_ble_eq_true rfl)) ⟨Nat.le_of_ble_eq_true rfl, Nat.le_of_ble_eq_true rfl⟩ dX1_trial_4 ?_
  obtain ⟨o_4, hc_3, hrun⟩ := mox_s rfl hrun
  have hP : va_P D zCl ([] ++ ([] ++ (((cH k ah aw adr aim ard asc ath awl alo atr sh) ++ ((cW k aw sw) ++ ((cW k atr str) ++ (cS k asc ssc)))) ++ P))) _ := hP
  have hD : va_D A ([] ++ ([] ++ (((cH k ah aw adr aim ard asc ath awl alo atr sh) ++ ((cW k aw sw) ++ ((cW k atr str) ++ (cS k asc ssc)))) ++ P))) := hD
  refine cXS [] [] (((cH k ah aw adr aim ard asc ath awl alo atr sh) ++ ((cW k aw sw) ++ ((cW k atr str) ++ (cS k asc ssc)))) ++ P) (As := [.int (bz r_2)]) ⟨hx, hb, hml, hown, hts⟩ hOK hz hS hA hP hD (mtX1_demand l D Z hOK hlt hTh _ o_4 hc_3) (kX1_demand hts q1627 rfl rfl ⟨Nat.le_of_ble_eq_true rfl, Nat.le_of_ble_eq_true rfl⟩) rfl hl.1 rfl (lv_room (Nat.le_of_ble_eq_true rfl)) ⟨Nat.le_of_ble_eq_true rfl, Nat.le_of_ble_eq_true rfl⟩ dX1_trial_7 (fun E_ w_ ce_ q9_ H locs hq hP hD hS hce hcv hcl => ?_) (fun r_ w_ H locs hq hP hD hS => ?_)
  · obtain ⟨rfl, rfl⟩ := hq
    have hrun := moxl hrun
    cases hrun
    have hP : va_P D zCl (((cH k ah aw adr aim ard asc ath awl alo atr sh) ++ ((cW k aw sw) ++ ((cW k atr str) ++ (cS k asc ssc)))) ++ P) _ := hP
    have hD : va_D A (((cH k ah aw adr aim ard asc ath awl alo atr sh) ++ ((cW k aw sw) ++ ((cW k atr str) ++ (cS k asc ssc)))) ++ P) := hD
    exact zout hnoh hlocks hce hcv hcl hP hD hS ⟨_, _, rfl, rfl⟩ (Nat.le_of_ble_eq_true rfl) (Nat.le_of_ble_eq_true rfl)
  obtain ⟨rfl, rfl, rfl⟩ := hq
  have hrun := moxr hrun
  have hP : va_P D zCl (((cH k ah aw adr aim ard asc ath awl alo atr sh) ++ ((cW k aw sw) ++ ((cW k atr str) ++ (cS k asc ssc)))) ++ P) _ := hP
  have hD : va_D A (((cH k ah aw adr aim ard asc ath awl alo atr sh) ++ ((cW k aw sw) ++ ((cW k atr str) ++ (cS k asc ssc)))) ++ P) := hD
  refine lv_aload_n hx hb dX1_trial_10 rfl (lv_at hl 0 rfl) ?_
  refine va_get (ci := 1) (v := .ref (atr 0)) (C := RX1) (T := TX1) (N := 10) hx hb hts in_X1 hown hK hP 0 rfl rfl 9 (by decide) (hts _ q380) (fun _ h9 => h9) rfl dX1_trial_11 ?_
  refine lv_aload_n hx hb dX1_trial_14 rfl (lv_at hl 0 rfl) ?_
  refine va_get (ci := 1) (v := .ref (aw 0)) (C := RX1) (T := TX1) (N := 10) hx hb hts in_X1 hown hK hP 0 rfl rfl 0 (by decide) (hts _ q370) (fun _ h9 => h9) rfl dX1_trial_15 ?_
  obtain ⟨str_7, hc_6, hrun⟩ := mob_s rfl hrun
  have hP := zsubT (w' := ((cW k atr str) ++ (cW k aw sw)) ++ ((cH k ah aw adr aim ard asc ath awl alo atr sh) ++ (cS k asc ssc))) hP [10, 11, 12, 13, 14, 15, 16, 17, 18, 1, 2, 3, 4, 5, 6, 7, 8, 9, 0, 19] rfl
  have hD := zsubTD (w' := ((cW k atr str) ++ (cW k aw sw)) ++ ((cH k ah aw adr aim ard asc ath awl alo atr sh) ++ (cS k asc ssc))) hD [10, 11, 12, 13, 14, 15, 16, 17, 18, 1, 2, 3, 4, 5, 6, 7, 8, 9, 0, 19] (by decide) rfl
  have hP : va_P D zCl ([] ++ (((cW k atr str) ++ (cW k aw sw)) ++ (((cH k ah aw adr aim ard asc ath awl alo atr sh) ++ (cS k asc ssc)) ++ P))) _ := hP
  have hD : va_D A ([] ++ (((cW k atr str) ++ (cW k aw sw)) ++ (((cH k ah aw adr aim ard asc ath awl alo atr sh) ++ (cS k asc ssc)) ++ P))) := hD
  refine cWV [] ((cW k atr str) ++ (cW k aw sw)) (((cH k ah aw adr aim ard asc ath awl alo atr sh) ++ (cS k asc ssc)) ++ P) (As := [.ref (aw 0)]) (ci := 2) ⟨hx, hb, hml, hown, hts⟩ hOK hz hS hA hP hD (mtX2_likens l D k atr aw Z hOK _ _ _ hc_6) (kX2_likens hts q434 rfl rfl ⟨Nat.le_of_ble_eq_true rfl, Nat.le_of_ble_eq_true rfl⟩) 0 rfl rfl rfl hl.1 rfl (lv_room (Nat.le_of_ble_eq_true rfl)) ⟨Nat.le_of_ble_eq_true rfl, Nat.le_of_ble_eq_true rfl⟩ dX1_trial_18 (fun r_ w_ H locs hq hP hD hS => ?_)
  obtain ⟨rfl, rfl⟩ := hq
  have hP : va_P D zCl (((cW k atr str_7) ++ ((cW k aw sw) ++ ((cH k ah aw adr aim ard asc ath awl alo atr sh) ++ (cS k asc ssc)))) ++ P) _ := hP
  have hD : va_D A (((cW k atr str_7) ++ ((cW k aw sw) ++ ((cH k ah aw adr aim ard asc ath awl alo atr sh) ++ (cS k asc ssc)))) ++ P) := hD
  have hP := zsubT (w' := ((cH k ah aw adr aim ard asc ath awl alo atr sh) ++ ((cW k aw sw) ++ ((cW k atr str_7) ++ (cS k asc ssc))))) hP [18, 9, 10, 11, 12, 13, 14, 15, 16, 17, 0, 1, 2, 3, 4, 5, 6, 7, 8, 19] rfl
  have hD := zsubTD (w' := ((cH k ah aw adr aim ard asc ath awl alo atr sh) ++ ((cW k aw sw) ++ ((cW k atr str_7) ++ (cS k asc ssc))))) hD [18, 9, 10, 11, 12, 13, 14, 15, 16, 17, 0, 1, 2, 3, 4, 5, 6, 7, 8, 19] (by decide) rfl
  refine lv_pop hx hb dX1_trial_21 rfl ?_
  refine lv_aload_n hx hb dX1_trial_22 rfl (lv_at hl 0 rfl) ?_
  refine lv_iload_n hx hb dX1_trial_23 rfl (lv_at hl 1 rfl) ?_
  obtain ⟨⟨str_9, ssc_10⟩, hc_8, hrun⟩ := mob_s rfl hrun
  have hP := zsubT (w' := (cW k aw sw) ++ ((cH k ah aw adr aim ard asc ath awl alo atr sh) ++ ((cW k atr str_7) ++ (cS k asc ssc)))) hP [1, 2, 3, 4, 5, 6, 7, 8, 9, 0, 10, 11, 12, 13, 14, 15, 16, 17, 18, 19] rfl
  have hD := zsubTD (w' := (cW k aw sw) ++ ((cH k ah aw adr aim ard asc ath awl alo atr sh) ++ ((cW k atr str_7) ++ (cS k asc ssc)))) hD [1, 2, 3, 4, 5, 6, 7, 8, 9, 0, 10, 11, 12, 13, 14, 15, 16, 17, 18, 19] (by decide) rfl
  have hP : va_P D zCl ((cW k aw sw) ++ (((cH k ah aw adr aim ard asc ath awl alo atr sh) ++ ((cW k atr str_7) ++ (cS k asc ssc))) ++ P)) _ := hP
  have hD : va_D A ((cW k aw sw) ++ (((cH k ah aw adr aim ard asc ath awl alo atr sh) ++ ((cW k atr str_7) ++ (cS k asc ssc))) ++ P)) := hD
  refine cWVP (cW k aw sw) (((cH k ah aw adr aim ard asc ath awl alo atr sh) ++ ((cW k atr str_7) ++ (cS k asc ssc))) ++ P) (As := [.int p1]) (ci := 1) ⟨hx, hb, hml, hown, hts⟩ hOK hz hS hA hP hD (mtX1_tries l D k ah aw adr aim ard asc ath awl alo atr Z hOK hFa hFw P Sm hPl _ _ _ _ _ _ hc_8) (kX1_tries hts q1867 rfl rfl ⟨Nat.le_of_ble_eq_true rfl, Nat.le_of_ble_eq_true rfl⟩) 0 rfl rfl rfl hl.1 rfl (lv_room (Nat.le_of_ble_eq_true rfl)) ⟨Nat.le_of_ble_eq_true rfl, Nat.le_of_ble_eq_true rfl⟩ dX1_trial_24 (fun r_ w_ H locs hq hP hD hS => ?_)
  obtain ⟨rfl, rfl⟩ := hq
  have hP : va_P D zCl (((cW k aw sw) ++ ((cH k ah aw adr aim ard asc ath awl alo atr sh) ++ ((cW k atr str_9) ++ (cS k asc ssc_10)))) ++ P) _ := hP
  have hD : va_D A (((cW k aw sw) ++ ((cH k ah aw adr aim ard asc ath awl alo atr sh) ++ ((cW k atr str_9) ++ (cS k asc ssc_10)))) ++ P) := hD
  have hP := zsubT (w' := ((cH k ah aw adr aim ard asc ath awl alo atr sh) ++ ((cW k aw sw) ++ ((cW k atr str_9) ++ (cS k asc ssc_10))))) hP [9, 0, 1, 2, 3, 4, 5, 6, 7, 8, 10, 11, 12, 13, 14, 15, 16, 17, 18, 19] rfl
  have hD := zsubTD (w' := ((cH k ah aw adr aim ard asc ath awl alo atr sh) ++ ((cW k aw sw) ++ ((cW k atr str_9) ++ (cS k asc ssc_10))))) hD [9, 0, 1, 2, 3, 4, 5, 6, 7, 8, 10, 11, 12, 13, 14, 15, 16, 17, 18, 19] (by decide) rfl
  refine lv_iload_n hx hb dX1_trial_27 rfl (lv_at hl 2 rfl) ?_
  refine lv_if_eq (tgt := 41) hx hb dX1_trial_28 (by decide) (fun c_12 => ?_) (fun c_12 => ?_)
  · have hrun := mif_n (bz_z c_12) hrun
    refine lv_aload_n hx hb dX1_trial_41 rfl (lv_at hl 0 rfl) ?_
    refine va_get (ci := 1) (v := .ref (atr 0)) (C := RX1) (T := TX1) (N := 10) hx hb hts in_X1 hown hK hP 0 rfl rfl 9 (by decide) (hts _ q380) (fun _ h9 => h9) rfl dX1_trial_42 ?_
    refine va_getN (ci := 2) (v := .int (wd_seen str_9)) (C := RX2) (T := TX2) (N := 21) hx hb hts in_X2 hown hK hP 10 rfl rfl 9 (by decide) (va_Nw.use rfl (hN _ (zN_of q183 rfl))) (fun _ h9 => h9) rfl dX1_trial_45 ?_
    refine lv_aload_n hx hb dX1_trial_48 rfl (lv_at hl 0 rfl) ?_
    refine va_get (ci := 1) (v := .ref (aw 0)) (C := RX1) (T := TX1) (N := 10) hx hb hts in_X1 hown hK hP 0 rfl rfl 0 (by decide) (hts _ q370) (fun _ h9 => h9) rfl dX1_trial_49 ?_
    refine va_getN (ci := 2) (v := .int (wd_seen sw)) (C := RX2) (T := TX2) (N := 21) hx hb hts in_X2 hown hK hP 1 rfl rfl 9 (by decide) (va_Nw.use rfl (hN _ (zN_of q183 rfl))) (fun _ h9 => h9) rfl dX1_trial_52 ?_
    refine lv_isub hx hb dX1_trial_55 ?_
    cases hrun
    refine W.widen (k := 1) (n := 6) (Nat.le_of_ble_eq_true rfl) (Nat.le_of_ble_eq_true rfl) ?_
    exact vx_ret (retW_i hx hb hr hlocks hP hD hS ⟨_, _, _, rfl, rfl, rfl⟩ dX1_trial_56)
  have hrun := mif_p (bz_nz c_12) hrun
  refine lv_aload_n hx hb dX1_trial_31 rfl (lv_at hl 0 rfl) ?_
  refine va_get (ci := 1) (v := .ref (atr 0)) (C := RX1) (T := TX1) (N := 10) hx hb hts in_X1 hown hK hP 0 rfl rfl 9 (by decide) (hts _ q380) (fun _ h9 => h9) rfl dX1_trial_32 ?_
  obtain ⟨r_14, hc_13, hrun⟩ := mob_s rfl hrun
  refine cRV (As := []) (ci := 2) ⟨hx, hb, hml, hown, hts⟩ hOK hz hS (hP.sub (ws' := (cW k atr str_9)) [10, 11, 12, 13, 14, 15, 16, 17, 18] rfl) (mtX2_allHoles l D k atr Z hOK _ _ hc_13) (kX2_allHoles hts q740 rfl rfl ⟨Nat.le_of_ble_eq_true rfl, Nat.le_of_ble_eq_true rfl⟩) 0 rfl rfl rfl hl.1 rfl (lv_room (Nat.le_of_ble_eq_true rfl)) ⟨Nat.le_of_ble_eq_true rfl, Nat.le_of_ble_eq_true rfl⟩ dX1_trial_35 ?_
  refine lv_goto (tgt := 56) hx hb dX1_trial_38 (by decide) ?_
  cases hrun
  refine W.widen (k := 1) (n := 6) (Nat.le_of_ble_eq_true rfl) (Nat.le_of_ble_eq_true rfl) ?_
  exact vx_ret (retW_i hx hb hr hlocks hP hD hS ⟨_, _, _, rfl, rfl, rfl⟩ dX1_trial_56)
def rX1_span : Room := { frames := 32, cells := 1, slots := 6, locals := 1091 }
noncomputable def fX1_span_L15 (sw : Wd) (Sm : zSem) (sh : Kp) (p1 : Int32) (p2 : Bool) : Nat → Int32 → Int32 → Wd → Sc → Option ((String × Wd × Sc) ⊕ (Int32 × Wd × Sc))
  | 0, _, _, _, _ => none
  | n + 1, x3_7, x4_8, str_9, ssc_10 =>
    if (6 : Int32) < x4_8 then
      some (.inr (x3_7, (str_9, ssc_10)))
    else
      mob (fX2_likens str_9 sw) fun str_13 =>
      mlt (wd_s_seed str_13 x4_8) fun str_14 =>
      mob (fX1_tries Sm sh str_14 ssc_10 p1) fun q_18 =>
      if x3_7 = (-1 : Int32) then
        fX1_span_L15 sw Sm sh p1 p2 n ((wd_seen (q_18.1)) - (wd_seen sw)) (x4_8 + (1 : Int32)) (q_18.1) (q_18.2)
      else
        if p2 = true then
          fX1_span_L15 sw Sm sh p1 p2 n (zmx x3_7 ((wd_seen (q_18.1)) - (wd_seen sw))) (x4_8 + (1 : Int32)) (q_18.1) (q_18.2)
        else
          fX1_span_L15 sw Sm sh p1 p2 n (zmn x3_7 ((wd_seen (q_18.1)) - (wd_seen sw))) (x4_8 + (1 : Int32)) (q_18.1) (q_18.2)
noncomputable def fX1_span (Sm : zSem) (sh : Kp) (sw : Wd) (str : Wd) (ssc : Sc) (p1 : Int32) (p2 : Bool) : Option ((String × Wd × Sc) ⊕ (Int32 × Wd × Sc)) :=
  mob (fX1_in p1 (0 : Int32) (60 : Int32)) fun r_2 =>
  mox (fX1_demand r_2) (fun E_5 => some (.inl (E_5, (str, ssc)))) fun _ =>
  fX1_span_L15 sw Sm sh p1 p2 mFU (-1 : Int32) (1 : Int32) str ssc
theorem kX1_span {R : Room} {s : State} {args : Array Value} {own : String} {idx mc ms : Nat} {rm : Room} (hts : ∀ w ∈ lw_all, w.before args s = true) (hl : Cond.methodLink own idx yX1_span ∈ lw_all) (hrc : rm.cells = mc) (hrs : rm.slots = ms) (hR : rm.frames + 1 ≤ R.frames ∧ 8 + (6 + 11) + rm.locals ≤ R.locals) : CallW R s args own RX1 idx yX1_span cX1_span 6 (some .int) (ws_ yX1_span cX1_span 6 (some .int)) rm mc ms 2 :=
  cwV 2 hts (lw_V hl q1875 q1876 q107 q1877) rfl hrc hrs (by decide +kernel) hR
set_option maxHeartbeats 4000000 in
set_option maxRecDepth 100000 in
theorem mtX1_span (l : Launch) (D : va_G) (k : Nat → ClassId) (ah : Nat → Nat) (aw : Nat → Nat) (adr : Nat → Nat) (aim : Nat → Nat) (ard : Nat → Nat) (asc : Nat → Nat) (ath : Nat → Nat) (awl : Nat → Nat) (alo : Nat → Nat) (atr : Nat → Nat) (Z : zZ) (hOK : zOK D zCl (zTys k) Z) (hlt : l.stackTraces = false) (hTh : zTh Z) {e0 : Nat} {aF : Nat → Nat} (hFa : zFa Z aF) (hFw : zFw Z) (P : va_W) (Sm : zSem) (hPl : zPl k e0 aF P Sm) (sh : Kp) (sw : Wd) (str : Wd) (ssc : Sc) (p1 : Int32) (p2 : Bool) (o : (String × Wd × Sc) ⊕ (Int32 × Wd × Sc)) (hrun : fX1_span Sm sh sw str ssc p1 p2 = some o) :
    CtX l yX1_span cX1_span 6 (some .int) rX1_span Z D zCl (((cH k ah aw adr aim ard asc ath awl alo atr sh) ++ ((cW k aw sw) ++ ((cW k atr str) ++ (cS k asc ssc)))) ++ P) [.ref (ah 0), .int p1, .int (bz p2)] (fun r' w' => ∃ (r : Int32) (otr : Wd) (osc : Sc), o = .inr (r, (otr, osc)) ∧ r' = (some (.int r)) ∧ w' = (((cH k ah aw adr aim ard asc ath awl alo atr sh) ++ ((cW k aw sw) ++ ((cW k atr otr) ++ (cS k asc osc)))) ++ P)) (fun E' w' => ∃ (otr : Wd) (osc : Sc), o = .inl (E', (otr, osc)) ∧ w' = (((cH k ah aw adr aim ard asc ath awl alo atr sh) ++ ((cW k aw sw) ++ ((cW k atr otr) ++ (cS k asc osc)))) ++ P)) 1 6 := by
  refine CtX.of (by decide) (Nat.le_of_ble_eq_true rfl) ?_
  intro p e s m args below meth c A hE hnoh hA hP hD hS hz ls hl
  obtain ⟨hx, hb, hr, hml, hown, hts, hlocks, hname⟩ := hE
  have hown : s.vm.findClass RX1 = some m.cls := hown
  have hK := hOK.1 _ _ _ hz
  have hN := hOK.2.1 _ _ _ hz
  have hl : lv_has ls 6 [(0, .ref (ah 0)), (1, .int p1), (2, .int (bz p2))] := hl
  unfold fX1_span at hrun
  refine lv_iload_n hx hb dX1_span_0 rfl (lv_at hl 1 rfl) ?_
  refine lv_iconst (v := (0 : Int32)) hx hb dX1_span_1 (by decide) ?_
  refine lv_bipush (v := (60 : Int32)) hx hb dX1_span_2 (by decide) ?_
  obtain ⟨r_2, hc_1, hrun⟩ := mob_s rfl hrun
  refine cRS (ws := []) (As := [.int p1, .int (0 : Int32), .int (60 : Int32)]) ⟨hx, hb, hml, hown, hts⟩ hOK hz hS zP0 (mtX1_in l D Z hOK _ _ _ _ hc_1) (kX1_in hts q647 rfl rfl ⟨Nat.le_of_ble_eq_true rfl, Nat.le_of_ble_eq_true rfl⟩) rfl hl.1 rfl (lv_room (Nat.le_of_ble_eq_true rfl)) ⟨Nat.le_of_ble_eq_true rfl, Nat.le_of_ble_eq_true rfl⟩ dX1_span_4 ?_
  obtain ⟨o_4, hc_3, hrun⟩ := mox_s rfl hrun
  have hP : va_P D zCl ([] ++ ([] ++ (((cH k ah aw adr aim ard asc ath awl alo atr sh) ++ ((cW k aw sw) ++ ((cW k atr str) ++ (cS k asc ssc)))) ++ P))) _ := hP
  have hD : va_D A ([] ++ ([] ++ (((cH k ah aw adr aim ard asc ath awl alo atr sh) ++ ((cW k aw sw) ++ ((cW k atr str) ++ (cS k asc ssc)))) ++ P))) := hD
  refine cXS [] [] (((cH k ah aw adr aim ard asc ath awl alo atr sh) ++ ((cW k aw sw) ++ ((cW k atr str) ++ (cS k asc ssc)))) ++ P) (As := [.int (bz r_2)]) ⟨hx, hb, hml, hown, hts⟩ hOK hz hS hA hP hD (mtX1_demand l D Z hOK hlt hTh _ o_4 hc_3) (kX1_demand hts q1627 rfl rfl ⟨Nat.le_of_ble_eq_true rfl, Nat.le_of_ble_eq_true rfl⟩) rfl hl.1 rfl (lv_room (Nat.le_of_ble_eq_true rfl)) ⟨Nat.le_of_ble_eq_true rfl, Nat.le_of_ble_eq_true rfl⟩ dX1_span_7 (fun E_ w_ ce_ q9_ H locs hq hP hD hS hce hcv hcl => ?_) (fun r_ w_ H locs hq hP hD hS => ?_)
  · obtain ⟨rfl, rfl⟩ := hq
    have hrun := moxl hrun
    cases hrun
    have hP : va_P D zCl (((cH k ah aw adr aim ard asc ath awl alo atr sh) ++ ((cW k aw sw) ++ ((cW k atr str) ++ (cS k asc ssc)))) ++ P) _ := hP
    have hD : va_D A (((cH k ah aw adr aim ard asc ath awl alo atr sh) ++ ((cW k aw sw) ++ ((cW k atr str) ++ (cS k asc ssc)))) ++ P) := hD
    exact zout hnoh hlocks hce hcv hcl hP hD hS ⟨_, _, rfl, rfl⟩ (Nat.le_of_ble_eq_true rfl) (Nat.le_of_ble_eq_true rfl)
  obtain ⟨rfl, rfl, rfl⟩ := hq
  have hrun := moxr hrun
  have hP : va_P D zCl (((cH k ah aw adr aim ard asc ath awl alo atr sh) ++ ((cW k aw sw) ++ ((cW k atr str) ++ (cS k asc ssc)))) ++ P) _ := hP
  have hD : va_D A (((cH k ah aw adr aim ard asc ath awl alo atr sh) ++ ((cW k aw sw) ++ ((cW k atr str) ++ (cS k asc ssc)))) ++ P) := hD
  refine lv_iconst (v := (-1 : Int32)) hx hb dX1_span_10 (by decide) ?_
  refine lv_istore_n (lv' := [(3, .int (-1 : Int32)), (0, .ref (ah 0)), (1, .int p1), (2, .int (bz p2))]) hx hb dX1_span_11 rfl hl (by decide) rfl (fun ls hl => ?_)
  refine lv_iconst (v := (1 : Int32)) hx hb dX1_span_12 (by decide) ?_
  refine lv_istore (lv' := [(4, .int (1 : Int32)), (3, .int (-1 : Int32)), (0, .ref (ah 0)), (1, .int p1), (2, .int (bz p2))]) hx hb dX1_span_13 hl (by decide) rfl (fun ls hl => ?_)
  have hL_6 : ∀ n : Nat, ∀ (x3_7 : Int32) (x4_8 : Int32) (str_9 : Wd) (ssc_10 : Sc), ∀ (H : Heap) (locs : List Loc), va_P D zCl (((cH k ah aw adr aim ard asc ath awl alo atr sh) ++ ((cW k aw sw) ++ ((cW k atr str_9) ++ (cS k asc ssc_10)))) ++ P) H → va_D A (((cH k ah aw adr aim ard asc ath awl alo atr sh) ++ ((cW k aw sw) ++ ((cW k atr str_9) ++ (cS k asc ssc_10)))) ++ P) → va_S A s.heap H locs → ∀ ls : Array Slot, lv_has ls 6 [(0, .ref (ah 0)), (1, .int p1), (2, .int (bz p2)), (3, .int x3_7), (4, .int x4_8)] → fX1_span_L15 sw Sm sh p1 p2 n x3_7 x4_8 str_9 ssc_10 = some o → W p l e rX1_span s m args below meth c H locs 1 6 (vx_MQ below (QWr (fun r' w' => ∃ (r : Int32) (otr : Wd) (osc : Sc), o = .inr (r, (otr, osc)) ∧ r' = (some (.int r)) ∧ w' = (((cH k ah aw adr aim ard asc ath awl alo atr sh) ++ ((cW k aw sw) ++ ((cW k atr otr) ++ (cS k asc osc)))) ++ P)) D zCl A) (QXr (fun E' w' => ∃ (otr : Wd) (osc : Sc), o = .inl (E', (otr, osc)) ∧ w' = (((cH k ah aw adr aim ard asc ath awl alo atr sh) ++ ((cW k aw sw) ++ ((cW k atr otr) ++ (cS k asc osc)))) ++ P)) D zCl A) args s 1 6 A) (F0 m 15 ls []) := by
    intro n
    induction n with
    | zero =>
      intro x3_7 x4_8 str_9 ssc_10 H locs hP hD hS ls hl hrun
      exact nomatch hrun
    | succ n ih =>
      intro x3_7 x4_8 str_9 ssc_10 H locs hP hD hS ls hl hrun
      rw [fX1_span_L15.eq_2] at hrun
      refine lv_iload hx hb dX1_span_15 (lv_at hl 4 rfl) ?_
      refine lv_bipush (v := (6 : Int32)) hx hb dX1_span_17 (by decide) ?_
      refine lv_icmp_gt (tgt := 101) hx hb dX1_span_19 (by decide) (fun c_11 => ?_) (fun c_11 => ?_)
      · have hrun := mif_p c_11 hrun
        refine lv_iload_n hx hb dX1_span_101 rfl (lv_at hl 3 rfl) ?_
        cases hrun
        refine W.widen (k := 1) (n := 6) (Nat.le_of_ble_eq_true rfl) (Nat.le_of_ble_eq_true rfl) ?_
        exact vx_ret (retW_i hx hb hr hlocks hP hD hS ⟨_, _, _, rfl, rfl, rfl⟩ dX1_span_102)
      have hrun := mif_n c_11 hrun
      refine lv_aload_n hx hb dX1_span_22 rfl (lv_at hl 0 rfl) ?_
      refine va_get (ci := 1) (v := .ref (atr 0)) (C := RX1) (T := TX1) (N := 10) hx hb hts in_X1 hown hK hP 0 rfl rfl 9 (by decide) (hts _ q380) (fun _ h9 => h9) rfl dX1_span_23 ?_
      refine lv_aload_n hx hb dX1_span_26 rfl (lv_at hl 0 rfl) ?_
      refine va_get (ci := 1) (v := .ref (aw 0)) (C := RX1) (T := TX1) (N := 10) hx hb hts in_X1 hown hK hP 0 rfl rfl 0 (by decide) (hts _ q370) (fun _ h9 => h9) rfl dX1_span_27 ?_
      obtain ⟨str_13, hc_12, hrun⟩ := mob_s rfl hrun
      have hP := zsubT (w' := ((cW k atr str_9) ++ (cW k aw sw)) ++ ((cH k ah aw adr aim ard asc ath awl alo atr sh) ++ (cS k asc ssc_10))) hP [10, 11, 12, 13, 14, 15, 16, 17, 18, 1, 2, 3, 4, 5, 6, 7, 8, 9, 0, 19] rfl
      have hD := zsubTD (w' := ((cW k atr str_9) ++ (cW k aw sw)) ++ ((cH k ah aw adr aim ard asc ath awl alo atr sh) ++ (cS k asc ssc_10))) hD [10, 11, 12, 13, 14, 15, 16, 17, 18, 1, 2, 3, 4, 5, 6, 7, 8, 9, 0, 19] (by decide) rfl
      have hP : va_P D zCl ([] ++ (((cW k atr str_9) ++ (cW k aw sw)) ++ (((cH k ah aw adr aim ard asc ath awl alo atr sh) ++ (cS k asc ssc_10)) ++ P))) _ := hP
      have hD : va_D A ([] ++ (((cW k atr str_9) ++ (cW k aw sw)) ++ (((cH k ah aw adr aim ard asc ath awl alo atr sh) ++ (cS k asc ssc_10)) ++ P))) := hD
      refine cWV [] ((cW k atr str_9) ++ (cW k aw sw)) (((cH k ah aw adr aim ard asc ath awl alo atr sh) ++ (cS k asc ssc_10)) ++ P) (As := [.ref (aw 0)]) (ci := 2) ⟨hx, hb, hml, hown, hts⟩ hOK hz hS hA hP hD (mtX2_likens l D k atr aw Z hOK _ _ _ hc_12) (kX2_likens hts q434 rfl rfl ⟨Nat.le_of_ble_eq_true rfl, Nat.le_of_ble_eq_true rfl⟩) 0 rfl rfl rfl hl.1 rfl (lv_room (Nat.le_of_ble_eq_true rfl)) ⟨Nat.le_of_ble_eq_true rfl, Nat.le_of_ble_eq_true rfl⟩ dX1_span_30 (fun r_ w_ H locs hq hP hD hS => ?_)
      obtain ⟨rfl, rfl⟩ := hq
      have hP : va_P D zCl (((cW k atr str_13) ++ ((cW k aw sw) ++ ((cH k ah aw adr aim ard asc ath awl alo atr sh) ++ (cS k asc ssc_10)))) ++ P) _ := hP
      have hD : va_D A (((cW k atr str_13) ++ ((cW k aw sw) ++ ((cH k ah aw adr aim ard asc ath awl alo atr sh) ++ (cS k asc ssc_10)))) ++ P) := hD
      have hP := zsubT (w' := ((cH k ah aw adr aim ard asc ath awl alo atr sh) ++ ((cW k aw sw) ++ ((cW k atr str_13) ++ (cS k asc ssc_10))))) hP [18, 9, 10, 11, 12, 13, 14, 15, 16, 17, 0, 1, 2, 3, 4, 5, 6, 7, 8, 19] rfl
      have hD := zsubTD (w' := ((cH k ah aw adr aim ard asc ath awl alo atr sh) ++ ((cW k aw sw) ++ ((cW k atr str_13) ++ (cS k asc ssc_10))))) hD [18, 9, 10, 11, 12, 13, 14, 15, 16, 17, 0, 1, 2, 3, 4, 5, 6, 7, 8, 19] (by decide) rfl
      refine lv_pop hx hb dX1_span_33 rfl ?_
      refine lv_aload_n hx hb dX1_span_34 rfl (lv_at hl 0 rfl) ?_
      refine va_get (ci := 1) (v := .ref (atr 0)) (C := RX1) (T := TX1) (N := 10) hx hb hts in_X1 hown hK hP 0 rfl rfl 9 (by decide) (hts _ q380) (fun _ h9 => h9) rfl dX1_span_35 ?_
      refine lv_iload hx hb dX1_span_38 (lv_at hl 4 rfl) ?_
      refine va_putN (ci := 2) (v := .int x4_8) (ty := tyX2 11) (C := RX2) (T := TX2) (N := 21) hx hb hts in_X2 tyX2 tyX2_ok nmX2 hown hK hP hD hS 10 rfl rfl 11 (by decide) (va_Nw.use rfl (hN _ (zN_of q187 rfl))) (fun _ h9 => h9) rfl (tyX2_ok 11 (by decide)) rfl rfl (Nat.le_of_ble_eq_true rfl) dX1_span_40 (fun H locs hP hD hS => ?_)
      have hP : va_P D zCl (((cH k ah aw adr aim ard asc ath awl alo atr sh) ++ ((cW k aw sw) ++ ((cW k atr (wd_s_seed str_13 x4_8)) ++ (cS k asc ssc_10)))) ++ P) _ := hP
      have hD : va_D A (((cH k ah aw adr aim ard asc ath awl alo atr sh) ++ ((cW k aw sw) ++ ((cW k atr (wd_s_seed str_13 x4_8)) ++ (cS k asc ssc_10)))) ++ P) := hD
      obtain ⟨str_14, estr_14⟩ : ∃ z : Wd, z = (wd_s_seed str_13 x4_8) := ⟨_, rfl⟩
      rw [← estr_14] at hP hD
      have hrun := mlt_s hrun str_14 estr_14
      refine lv_aload_n hx hb dX1_span_43 rfl (lv_at hl 0 rfl) ?_
      refine lv_iload_n hx hb dX1_span_44 rfl (lv_at hl 1 rfl) ?_
      obtain ⟨⟨str_16, ssc_17⟩, hc_15, hrun⟩ := mob_s rfl hrun
      have hP := zsubT (w' := (cW k aw sw) ++ ((cH k ah aw adr aim ard asc ath awl alo atr sh) ++ ((cW k atr str_14) ++ (cS k asc ssc_10)))) hP [1, 2, 3, 4, 5, 6, 7, 8, 9, 0, 10, 11, 12, 13, 14, 15, 16, 17, 18, 19] rfl
      have hD := zsubTD (w' := (cW k aw sw) ++ ((cH k ah aw adr aim ard asc ath awl alo atr sh) ++ ((cW k atr str_14) ++ (cS k asc ssc_10)))) hD [1, 2, 3, 4, 5, 6, 7, 8, 9, 0, 10, 11, 12, 13, 14, 15, 16, 17, 18, 19] (by decide) rfl
      have hP : va_P D zCl ((cW k aw sw) ++ (((cH k ah aw adr aim ard asc ath awl alo atr sh) ++ ((cW k atr str_14) ++ (cS k asc ssc_10))) ++ P)) _ := hP
      have hD : va_D A ((cW k aw sw) ++ (((cH k ah aw adr aim ard asc ath awl alo atr sh) ++ ((cW k atr str_14) ++ (cS k asc ssc_10))) ++ P)) := hD
      refine cWVP (cW k aw sw) (((cH k ah aw adr aim ard asc ath awl alo atr sh) ++ ((cW k atr str_14) ++ (cS k asc ssc_10))) ++ P) (As := [.int p1]) (ci := 1) ⟨hx, hb, hml, hown, hts⟩ hOK hz hS hA hP hD (mtX1_tries l D k ah aw adr aim ard asc ath awl alo atr Z hOK hFa hFw P Sm hPl _ _ _ _ _ _ hc_15) (kX1_tries hts q1867 rfl rfl ⟨Nat.le_of_ble_eq_true rfl, Nat.le_of_ble_eq_true rfl⟩) 0 rfl rfl rfl hl.1 rfl (lv_room (Nat.le_of_ble_eq_true rfl)) ⟨Nat.le_of_ble_eq_true rfl, Nat.le_of_ble_eq_true rfl⟩ dX1_span_45 (fun r_ w_ H locs hq hP hD hS => ?_)
      obtain ⟨rfl, rfl⟩ := hq
      have hP : va_P D zCl (((cW k aw sw) ++ ((cH k ah aw adr aim ard asc ath awl alo atr sh) ++ ((cW k atr str_16) ++ (cS k asc ssc_17)))) ++ P) _ := hP
      have hD : va_D A (((cW k aw sw) ++ ((cH k ah aw adr aim ard asc ath awl alo atr sh) ++ ((cW k atr str_16) ++ (cS k asc ssc_17)))) ++ P) := hD
      have hP := zsubT (w' := ((cH k ah aw adr aim ard asc ath awl alo atr sh) ++ ((cW k aw sw) ++ ((cW k atr str_16) ++ (cS k asc ssc_17))))) hP [9, 0, 1, 2, 3, 4, 5, 6, 7, 8, 10, 11, 12, 13, 14, 15, 16, 17, 18, 19] rfl
      have hD := zsubTD (w' := ((cH k ah aw adr aim ard asc ath awl alo atr sh) ++ ((cW k aw sw) ++ ((cW k atr str_16) ++ (cS k asc ssc_17))))) hD [9, 0, 1, 2, 3, 4, 5, 6, 7, 8, 10, 11, 12, 13, 14, 15, 16, 17, 18, 19] (by decide) rfl
      refine lv_aload_n hx hb dX1_span_48 rfl (lv_at hl 0 rfl) ?_
      refine va_get (ci := 1) (v := .ref (atr 0)) (C := RX1) (T := TX1) (N := 10) hx hb hts in_X1 hown hK hP 0 rfl rfl 9 (by decide) (hts _ q380) (fun _ h9 => h9) rfl dX1_span_49 ?_
      refine va_getN (ci := 2) (v := .int (wd_seen str_16)) (C := RX2) (T := TX2) (N := 21) hx hb hts in_X2 hown hK hP 10 rfl rfl 9 (by decide) (va_Nw.use rfl (hN _ (zN_of q183 rfl))) (fun _ h9 => h9) rfl dX1_span_52 ?_
      refine lv_aload_n hx hb dX1_span_55 rfl (lv_at hl 0 rfl) ?_
      refine va_get (ci := 1) (v := .ref (aw 0)) (C := RX1) (T := TX1) (N := 10) hx hb hts in_X1 hown hK hP 0 rfl rfl 0 (by decide) (hts _ q370) (fun _ h9 => h9) rfl dX1_span_56 ?_
      refine va_getN (ci := 2) (v := .int (wd_seen sw)) (C := RX2) (T := TX2) (N := 21) hx hb hts in_X2 hown hK hP 1 rfl rfl 9 (by decide) (va_Nw.use rfl (hN _ (zN_of q183 rfl))) (fun _ h9 => h9) rfl dX1_span_59 ?_
      refine lv_isub hx hb dX1_span_62 ?_
      refine lv_istore (lv' := [(5, .int ((wd_seen str_16) - (wd_seen sw))), (0, .ref (ah 0)), (1, .int p1), (2, .int (bz p2)), (3, .int x3_7), (4, .int x4_8)]) hx hb dX1_span_63 hl (by decide) rfl (fun ls hl => ?_)
      refine lv_iload_n hx hb dX1_span_65 rfl (lv_at hl 4 rfl) ?_
      refine lv_iconst (v := (-1 : Int32)) hx hb dX1_span_66 (by decide) ?_
      refine lv_icmp_ne (tgt := 75) hx hb dX1_span_67 (by decide) (fun c_19 => ?_) (fun c_19 => ?_)
      · have hrun := mif_n c_19 hrun
        refine lv_iload_n hx hb dX1_span_75 rfl (lv_at hl 3 rfl) ?_
        refine lv_if_eq (tgt := 88) hx hb dX1_span_76 (by decide) (fun c_20 => ?_) (fun c_20 => ?_)
        · have hrun := mif_n (bz_z c_20) hrun
          refine lv_iload_n hx hb dX1_span_88 rfl (lv_at hl 4 rfl) ?_
          refine lv_iload hx hb dX1_span_89 (lv_at hl 0 rfl) ?_
          refine va_mmin hx hb (hml.trans hl.1.symm) hown (hts _ q1690) (hts _ q550) (hts _ q122) (hts _ q551) (Nat.le_of_ble_eq_true rfl) (Nat.le_of_ble_eq_true rfl) (Nat.le_of_ble_eq_true rfl) (Nat.le_of_ble_eq_true rfl) dX1_span_91 ?_
          refine lv_istore_n (lv' := [(3, .int (zmn x3_7 ((wd_seen str_16) - (wd_seen sw)))), (5, .int ((wd_seen str_16) - (wd_seen sw))), (0, .ref (ah 0)), (1, .int p1), (2, .int (bz p2)), (4, .int x4_8)]) hx hb dX1_span_94 rfl hl (by decide) rfl (fun ls hl => ?_)
          refine lv_iinc (v := (x4_8 + (1 : Int32))) (lv' := [(4, .int (x4_8 + (1 : Int32))), (3, .int (zmn x3_7 ((wd_seen str_16) - (wd_seen sw)))), (5, .int ((wd_seen str_16) - (wd_seen sw))), (0, .ref (ah 0)), (1, .int p1), (2, .int (bz p2))]) hx hb dX1_span_95 hl (k := 5) rfl rfl (by decide) rfl (fun ls hl => ?_)
          refine lv_goto (tgt := 15) hx hb dX1_span_98 (by decide) ?_
          exact ih (zmn x3_7 ((wd_seen str_16) - (wd_seen sw))) (x4_8 + (1 : Int32)) str_16 ssc_17 _ _ hP hD hS ls (lv_sub hl [3, 4, 5, 1, 0] rfl) hrun
        have hrun := mif_p (bz_nz c_20) hrun
        refine lv_iload_n hx hb dX1_span_79 rfl (lv_at hl 4 rfl) ?_
        refine lv_iload hx hb dX1_span_80 (lv_at hl 0 rfl) ?_
        refine va_mmax hx hb (hml.trans hl.1.symm) hown (hts _ q1801) (hts _ q553) (hts _ q122) (hts _ q554) (Nat.le_of_ble_eq_true rfl) (Nat.le_of_ble_eq_true rfl) (Nat.le_of_ble_eq_true rfl) (Nat.le_of_ble_eq_true rfl) dX1_span_82 ?_
        refine lv_goto (tgt := 94) hx hb dX1_span_85 (by decide) ?_
        refine lv_istore_n (lv' := [(3, .int (zmx x3_7 ((wd_seen str_16) - (wd_seen sw)))), (5, .int ((wd_seen str_16) - (wd_seen sw))), (0, .ref (ah 0)), (1, .int p1), (2, .int (bz p2)), (4, .int x4_8)]) hx hb dX1_span_94 rfl hl (by decide) rfl (fun ls hl => ?_)
        refine lv_iinc (v := (x4_8 + (1 : Int32))) (lv' := [(4, .int (x4_8 + (1 : Int32))), (3, .int (zmx x3_7 ((wd_seen str_16) - (wd_seen sw)))), (5, .int ((wd_seen str_16) - (wd_seen sw))), (0, .ref (ah 0)), (1, .int p1), (2, .int (bz p2))]) hx hb dX1_span_95 hl (k := 5) rfl rfl (by decide) rfl (fun ls hl => ?_)
        refine lv_goto (tgt := 15) hx hb dX1_span_98 (by decide) ?_
        exact ih (zmx x3_7 ((wd_seen str_16) - (wd_seen sw))) (x4_8 + (1 : Int32)) str_16 ssc_17 _ _ hP hD hS ls (lv_sub hl [3, 4, 5, 1, 0] rfl) hrun
      have hrun := mif_p c_19 hrun
      refine lv_iload hx hb dX1_span_70 (lv_at hl 0 rfl) ?_
      refine lv_goto (tgt := 94) hx hb dX1_span_72 (by decide) ?_
      refine lv_istore_n (lv' := [(3, .int ((wd_seen str_16) - (wd_seen sw))), (5, .int ((wd_seen str_16) - (wd_seen sw))), (0, .ref (ah 0)), (1, .int p1), (2, .int (bz p2)), (4, .int x4_8)]) hx hb dX1_span_94 rfl hl (by decide) rfl (fun ls hl => ?_)
      refine lv_iinc (v := (x4_8 + (1 : Int32))) (lv' := [(4, .int (x4_8 + (1 : Int32))), (3, .int ((wd_seen str_16) - (wd_seen sw))), (5, .int ((wd_seen str_16) - (wd_seen sw))), (0, .ref (ah 0)), (1, .int p1), (2, .int (bz p2))]) hx hb dX1_span_95 hl (k := 5) rfl rfl (by decide) rfl (fun ls hl => ?_)
      refine lv_goto (tgt := 15) hx hb dX1_span_98 (by decide) ?_
      exact ih ((wd_seen str_16) - (wd_seen sw)) (x4_8 + (1 : Int32)) str_16 ssc_17 _ _ hP hD hS ls (lv_sub hl [3, 4, 5, 1, 0] rfl) hrun
  exact hL_6 mFU (-1 : Int32) (1 : Int32) str ssc _ _ hP hD hS ls (lv_sub hl [2, 3, 4, 1, 0] rfl) hrun
