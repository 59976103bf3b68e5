/-! METHODS WITH HANDLERS; the texts of the house -/
/-- a method with an exception table: returns (P) or throws (PX) -/
def CtXH (l : Launch) (y : MethodName) (cc : ByteArray) (mL : Nat) (ret : Option FieldType) (hh : List (Nat × Nat × Nat × Nat)) (rm : Room) (Z : zZ) (D : va_G) (cl : List vw_C) (ws : va_W) (av : List Value) (P : Option Value → va_W → Prop) (PX : String → va_W → Prop) (mc ms : Nat) : Prop :=
  ∀ sz : Nat, vx_Met l y (wsW_ y cc mL ret hh) rm (PcW Z D cl ws av sz) (QWr P D cl (va_A ws sz)) (QXr PX D cl (va_A ws sz)) mc ms (va_A ws sz)
theorem CtXH.of {l : Launch} {y : MethodName} {cc : ByteArray} {mL : Nat} {ret : Option FieldType} {hh : List (Nat × Nat × Nat × Nat)} {rm : Room} {Z : zZ} {D : va_G} {cl : List vw_C} {ws : va_W} {av : List Value} {P : Option Value → va_W → Prop} {PX : String → va_W → Prop} {mc ms : Nat} (hy : plainName y.cls = true) (hlen : (lg_sl av).length ≤ mL)
    (body : ∀ (p : Program) (e : Env) (s : State) (m : MethodId) (args : Array Value) (below : List Frame) (meth : Method) (c : Code) (A : Nat → Prop), zE p s m args meth c y cc mL ret → c.exceptionTable.toList = tableOf hh → (∀ q : Nat, s.heap.size ≤ q → A q) → va_P D cl ws s.heap → va_D A ws → va_S A s.heap s.heap [] → Z A s s.heap → ∀ ls : Array Slot, lv_has ls mL (lv_args 0 av) →
      W p l e rm s m args below meth c s.heap [] 0 0 (vx_MQ below (QWr P D cl A) (QXr PX D cl A) args s mc ms A) (F0 m 0 ls [])) : CtXH l y cc mL ret hh rm Z D cl ws av P PX mc ms := by
  intro sz
  refine vx_ofWH (cc := cc) (maxL := mL) (ret := ret) (hh := hh) (ws' := lw_all) hy rfl ?_
  intro p e s m args below meth c s₁ B hml hv
  obtain ⟨rfl, hsz, hP, hz, hD⟩ := hv
  subst hsz
  have hts := atoms_spec (ws := wsW_ y cc mL ret hh) B.pre
  have htab := vx_table (x := y) B (hts _ List.mem_cons_self)
  rw [lg_entry_eq]
  exact body p e s m _ below meth c (va_A ws s.heap.size) ⟨B.exec, B.bytes, B.returns, hml, findClass_of_methodNamed B.named, fun w h => hts w (List.mem_cons_of_mem _ h), B.notSynchronized, (name_of_methodNamed B.named B.method).1⟩ htab (fun q h => Or.inr h) hP hD.self va_S.rf hz _ (lv_entry av hlen)
section ZXH
variable {p : Program} {l : Launch} {e : Env} {R : Room} {s : State} {m : MethodId} {args : Array Value} {below : List Frame} {meth : Method} {c : Code} {H : Heap} {locs : List Loc} {cells slots : Nat} {Q : State → Prop}
variable {pc : Nat} {ls : Array Slot} {rest st0 : List Value} {D : va_G} {cl : List vw_C} {tys : List (ClassId × FieldType)} {Z : zZ} {A : Nat → Prop} {ws pre post : va_W} {P : Option Value → va_W → Prop} {PX : String → va_W → Prop} {mc ms : Nat} {cc : ByteArray}
variable {y : MethodName} {cy : ByteArray} {mL nL n index : Nat} {ret : Option FieldType} {hh : List (Nat × Nat × Nat × Nat)} {rm : Room} {own C : String} {b : Addr} {As : List Value} {q0 ci N : Nat} {T0 : u_T} {fs : List Value}
theorem cXVH (pre ws post : va_W) (S : CallFix p m c cc nL s args lw_all own) (hOK : zOK D cl tys Z) (hz : Z A s s.heap) (hS : va_S A s.heap H locs) (hA : ∀ q : Nat, s.heap.size ≤ q → A q) (hP : va_P D cl (pre ++ (ws ++ post)) H) (hD : va_D A (pre ++ (ws ++ post))) (hM : CtXH l y cy mL ret hh rm Z D cl ws (.ref b :: As) P PX mc ms) (cw : vx_CVW R s args own C index y cy mL ret hh (wsW_ y cy mL ret hh) rm mc ms n)
    (q0 : Nat) (he : ws[q0]? = some (b, .inr (ci, fs))) (hc : cl[ci]? = some (C, T0, N)) (hn : As.length = n) (hl : ls.size = nL) (hst : st0 = As.reverse ++ .ref b :: rest) (hW : 2 * (F0 m pc ls st0).monitorRoom + (rest.map fun v => v.category).sum ≤ 8) (hf : cells + mc ≤ R.cells ∧ slots + ms ≤ R.slots) (hdg : decode cc pc = .ok (.invokevirtual index, 3))
    (kx : ∀ (E : String) (ws' : va_W) (ce : Cell) (q9 : Addr) (H1 : Heap) (locs1 : List Loc), PX E ws' → va_P D cl (pre ++ (ws' ++ post)) H1 → va_D A (pre ++ (ws' ++ post)) → va_S A s.heap H1 locs1 → H1[q9]? = some ce → ce.vm = .none → s.vm.findClass E = some ce.cls → vx_W p l e R s m args below meth c H1 locs1 (cells + mc) (slots + ms) Q (F0 m pc ls rest) q9)
    (kk : ∀ (r : Option Value) (ws' : va_W) (H1 : Heap) (locs1 : List Loc), P r ws' → va_P D cl (pre ++ (ws' ++ post)) H1 → va_D A (pre ++ (ws' ++ post)) → va_S A s.heap H1 locs1 → W p l e R s m args below meth c H1 locs1 (cells + mc) (slots + ms) Q (F0 m (pc + 3) ls (r.toList ++ rest))) : W p l e R s m args below meth c H locs cells slots Q (F0 m pc ls st0) := by
  have gw : (pre ++ (ws ++ post))[pre.length + q0]? = some (b, .inr (ci, fs)) := by rw [List.getElem?_append_right (by omega), List.getElem?_append_left (by have := (List.getElem?_eq_some_iff.mp he).1; omega), Nat.add_sub_cancel_left]; exact he
  exact cl_X (vx_runVX (Qc := QWr P D cl (va_A ws H.size)) (XC := QXr PX D cl (va_A ws H.size)) (Pc := PcW Z D cl ws (.ref b :: As) H.size) S (hM H.size) cw ⟨blindW hOK, va_recv (q := (C, T0, N)) (hOK.1 _ _ _ hz) hP hc gw, readyW hOK hz hS hP hD hA⟩ rfl hn hl hst hW hdg hf) hP hD hS hA kx kk
theorem cXSH (pre ws post : va_W) (S : CallFix p m c cc nL s args lw_all own) (hOK : zOK D cl tys Z) (hz : Z A s s.heap) (hS : va_S A s.heap H locs) (hA : ∀ q : Nat, s.heap.size ≤ q → A q) (hP : va_P D cl (pre ++ (ws ++ post)) H) (hD : va_D A (pre ++ (ws ++ post))) (hM : CtXH l y cy mL ret hh rm Z D cl ws As P PX mc ms) (cw : vx_CSW R s args own index y cy mL ret hh (wsW_ y cy mL ret hh) rm mc ms n)
    (hn : As.length = n) (hl : ls.size = nL) (hst : st0 = As.reverse ++ rest) (hW : 2 * (F0 m pc ls st0).monitorRoom + (rest.map fun v => v.category).sum ≤ 8) (hf : cells + mc ≤ R.cells ∧ slots + ms ≤ R.slots) (hdg : decode cc pc = .ok (.invokestatic index, 3))
    (kx : ∀ (E : String) (ws' : va_W) (ce : Cell) (q9 : Addr) (H1 : Heap) (locs1 : List Loc), PX E ws' → va_P D cl (pre ++ (ws' ++ post)) H1 → va_D A (pre ++ (ws' ++ post)) → va_S A s.heap H1 locs1 → H1[q9]? = some ce → ce.vm = .none → s.vm.findClass E = some ce.cls → vx_W p l e R s m args below meth c H1 locs1 (cells + mc) (slots + ms) Q (F0 m pc ls rest) q9)
    (kk : ∀ (r : Option Value) (ws' : va_W) (H1 : Heap) (locs1 : List Loc), P r ws' → va_P D cl (pre ++ (ws' ++ post)) H1 → va_D A (pre ++ (ws' ++ post)) → va_S A s.heap H1 locs1 → W p l e R s m args below meth c H1 locs1 (cells + mc) (slots + ms) Q (F0 m (pc + 3) ls (r.toList ++ rest))) : W p l e R s m args below meth c H locs cells slots Q (F0 m pc ls st0) :=
  cl_X (vx_runSX (Qc := QWr P D cl (va_A ws H.size)) (XC := QXr PX D cl (va_A ws H.size)) (Pc := PcW Z D cl ws As H.size) S (hM H.size) cw ⟨blindW hOK, readyW hOK hz hS hP hD hA⟩ rfl hn hl hst hW hdg hf) hP hD hS hA kx kk
/-- what a callee threw leaves a method with handlers, too, where none covers -/
theorem zoutH {E : String} {ce : Cell} {q9 : Addr} (hout : ∀ x ∈ c.exceptionTable.toList, covers x pc = false) (hlocks : meth.locks = false) (hce : H[q9]? = some ce) (hv : ce.vm = .none) (hcl : s.vm.findClass E = some ce.cls) (hP : va_P D cl ws H) (hD : va_D A ws) (hS : va_S A s.heap H locs) (hp : PX E ws) (hc : cells ≤ mc) (hs : slots ≤ ms) :
    vx_W p l e R s m args below meth c H locs cells slots (vx_MQ below (QWr P D cl A) (QXr PX D cl A) args s mc ms A) (F0 m pc ls rest) q9 :=
  vx_out hout hlocks hce hv hcl (fun t ht _ => ⟨ws, hp, by rw [ht]; exact hP, hD, hS.F ht⟩) hS.2.2 hc hs
/-- new X(); athrow in a method with handlers -/
theorem zthrowH {own cls : String} {names : List String} {ik ic : Nat} (hx : p.tables.exec = Jvm.exec) (hb : c.code = cc) (hlt : l.stackTraces = false) (hown : s.vm.findClass own = some m.cls) (hcls : Bundle.fit cls = true) (hnames : ∀ n ∈ names, Bundle.fit n = true)
    (hk : (Cond.classLink own ik cls).before args s = true) (hini : (Cond.initialized cls).before args s = true) (hat : ∀ w ∈ vx_at0 own ic cls names, w.before args s = true)
    (hgood : ∀ w ∈ Cond.classLink own ik cls :: Cond.initialized cls :: vx_at0 own ic cls names, vx_ot w = true) (hT : zTh Z) (hz : Z A s s.heap) (hlocks : meth.locks = false) (hP : va_P D cl ws H) (hD : va_D A ws) (hS : va_S A s.heap H locs) (hA : ∀ q : Nat, s.heap.size ≤ q → A q) (hsize : ls.size = c.maxLocals)
    (hp : PX cls ws) (d0 : decode cc pc = .ok (.new ik, 3)) (d3 : decode cc (pc + 3) = .ok (.dup, 1)) (d4 : decode cc (pc + 4) = .ok (.invokespecial ic, 3)) (d7 : decode cc (pc + 7) = .ok (.athrow, 1)) (hout : ∀ x ∈ c.exceptionTable.toList, covers x (pc + 7) = false)
    (hRframes : names.length + 3 < R.frames) (hRlocals : (rest.map fun v => v.category).sum + (13 * (names.length + 1) + 42) ≤ R.locals) (hRcells : cells + 1 ≤ R.cells) (hRslots : slots + 6 ≤ R.slots) (hc : cells + 1 ≤ mc) (hs : slots + 6 ≤ ms) :
    W p l e R s m args below meth c H locs cells slots (vx_MQ below (QWr P D cl A) (QXr PX D cl A) args s mc ms A) (F0 m pc ls rest) :=
  vx_throw0 hx hb hlt hown hcls hnames hk hini hat hgood (hT _ _ _ hz).1 (hT _ _ _ hz).2 hS hsize d0 d3 d4 d7 hout hRframes hRlocals hRcells hRslots hlocks
    (fun t _ h1 h2 => ⟨ws, hp, hP.kept (fun k q h => h2 q.1 (hP k q h).lt), hD, ⟨Nat.le_trans hS.1 h1, fun q g1 g2 => (h2 q (Nat.lt_of_lt_of_le g1 hS.1)).trans (hS.2.1 q g1 g2)⟩⟩) hS.2.2 hc hs
end ZXH
noncomputable def fX1_hTL (sh : Kp) : Nat → Wd → Rd → Option ((String × Wd × Rd) ⊕ (Wd × Rd))
  | 0, su, srd => mox (fX1_noMore sh srd (nI 14) (14 : Int32)) (fun E => some (.inl (E.1, (su, E.2)))) fun _ => none
  | j + 1, su, srd => mox (fX1_hline sh su srd) (fun E => some (.inl E)) fun q => mox (fX1_goesOn sh q.2) (fun E => some (.inl (E.1, (q.1, E.2)))) fun z => if z.1 = true then fX1_hTL sh j q.1 z.2 else some (.inr (q.1, z.2))
noncomputable def fX1_hText (sh : Kp) (su : Wd) (srd : Rd) : Option ((String × Wd × Rd) ⊕ (Wd × Rd)) := mo2 (fX3_isOver srd) fun b s1 => if b = true then some (.inr (su, s1)) else fX1_hTL sh 14 su s1
/-- what a text of the house costs: nothing, if it is empty -/
noncomputable def hcost (srd : Rd) : Nat := match fX3_isOver srd with
  | some (true, _) => 0
  | _ => 1
def rX1_hText (c : Nat) : Room := rLs 12 (724 * c) (114110 * c) 480
theorem kX1_houseText {R : Room} {s : State} {args : Array Value} {own : String} {idx mc ms : Nat} {rm : Room} (hts : ∀ w ∈ lw_all, w.before args s = true) (hl : Cond.methodLink own idx yX1_houseText ∈ lw_all) (hrc : rm.cells = mc) (hrs : rm.slots = ms) (hR : rm.frames + 1 ≤ R.frames ∧ 8 + (3 + 11) + rm.locals ≤ R.locals) : CallW R s args own RX1 idx yX1_houseText cX1_houseText 3 none (ws_ yX1_houseText cX1_houseText 3 none) rm mc ms 1 :=
  cwV 1 hts (lw_V hl q765 qs12 q107 q766) rfl hrc hrs (by decide +kernel) hR
set_option maxRecDepth 100000 in
theorem mtX1_hText (l : Launch) (D : va_G) (k : Nat → ClassId) (ah aw adr aim ard asc ath awl alo atr : Nat → Nat) (au : Nat → Nat) (Z : zZ) (hOK : zOK D zCl (zTys k) Z) (hlt : l.stackTraces = false) (hTh : zTh Z) {adK adV : Nat → Nat} (hStr : zStr Z adK adV) (hPv : zPv Z) (sh : Kp) (su : Wd) (srd : Rd) (o : (String × Wd × Rd) ⊕ (Wd × Rd)) (hrun : fX1_hText sh su srd = some o) (c9 : Nat) (hc9 : hcost srd = c9) : CtX l yX1_houseText cX1_houseText 3 none (rX1_hText c9) Z D zCl ((cH k ah aw adr aim ard asc ath awl alo atr sh) ++ ((cW k au su) ++ (cR k ard srd))) [.ref (ah 0), .ref (au 0)] (fun r' w' => ∃ (ou : Wd) (ord : Rd), o = .inr (ou, ord) ∧ r' = none ∧ w' = ((cH k ah aw adr aim ard asc ath awl alo atr sh) ++ ((cW k au ou) ++ (cR k ard ord)))) (fun E' w' => ∃ (ou : Wd) (ord : Rd), o = .inl (E', (ou, ord)) ∧ w' = ((cH k ah aw adr aim ard asc ath awl alo atr sh) ++ ((cW k au ou) ++ (cR k ard ord)))) (724 * c9) (114110 * c9) := by
  unfold fX1_hText at hrun
  obtain ⟨b, s1, h0, hrun⟩ := mo2_s rfl hrun
  cases b with
  | true =>
    obtain rfl : c9 = 0 := by rw [← hc9]; unfold hcost; rw [h0]
    have hrun := mif_p rfl hrun
    refine CtX.of (by decide) (Nat.le_of_ble_eq_true rfl) ?_
    intro p e s m args below meth c A hE hnoh hA hP hD hS hz ls hl
    obtain ⟨hx, hb, hr, hml, hown, hts, hlocks, hname⟩ := hE
    have hown : s.vm.findClass RX1 = some m.cls := hown
    have hK := hOK.1 _ _ _ hz
    have hN := hOK.2.1 _ _ _ hz
    have hl : lv_has ls 3 [(0, .ref (ah 0)), (1, .ref (au 0))] := hl
    refine lv_aload_n hx hb dX1_houseText_0 rfl (lv_at hl 0 rfl) ?_
    refine va_get (ci := 1) (v := .ref (ard 0)) (C := RX1) (T := TX1) (N := 10) hx hb hts in_X1 hown hK hP 0 rfl rfl 4 (by decide) (hts _ q375) (fun _ h9 => h9) rfl dX1_houseText_1 ?_
    have hP : va_P D zCl (zcat [(cH k ah aw adr aim ard asc ath awl alo atr sh), (cW k au su), (cR k ard srd)]) _ := hP
    have hD : va_D A (zcat [(cH k ah aw adr aim ard asc ath awl alo atr sh), (cW k au su), (cR k ard srd)]) := hD
    have hP := zsP [(cH k ah aw adr aim ard asc ath awl alo atr sh), (cW k au su), (cR k ard srd)] 3 [0, 1] [2] hP rfl (by decide)
    have hD := zsD [(cH k ah aw adr aim ard asc ath awl alo atr sh), (cW k au su), (cR k ard srd)] 3 [0, 1] [2] hD rfl (by decide)
    have hP : va_P D zCl (((cH k ah aw adr aim ard asc ath awl alo atr sh) ++ (cW k au su)) ++ (cR k ard srd)) _ := hP
    have hD : va_D A (((cH k ah aw adr aim ard asc ath awl alo atr sh) ++ (cW k au su)) ++ (cR k ard srd)) := hD
    refine cWVP ((cH k ah aw adr aim ard asc ath awl alo atr sh) ++ (cW k au su)) (cR k ard srd) (As := []) (ci := 3) ⟨hx, hb, hml, hown, hts⟩ hOK hz hS hA hP hD (mtX3_isOver l D k ard Z hOK srd _ s1 h0) (kX3_isOver hts q767 rfl rfl ⟨Nat.le_of_ble_eq_true rfl, Nat.le_of_ble_eq_true rfl⟩) 0 rfl rfl rfl hl.1 rfl (lv_room (Nat.le_of_ble_eq_true rfl)) ⟨Nat.le_of_ble_eq_true rfl, Nat.le_of_ble_eq_true rfl⟩ dX1_houseText_4 (fun r_ w_ H locs hq hP hD hS => ?_)
    obtain ⟨rfl, rfl⟩ := hq
    have hP : va_P D zCl (((cH k ah aw adr aim ard asc ath awl alo atr sh) ++ (cW k au su)) ++ (cR k ard s1)) _ := hP
    have hD : va_D A (((cH k ah aw adr aim ard asc ath awl alo atr sh) ++ (cW k au su)) ++ (cR k ard s1)) := hD
    have hP := zjP [(cH k ah aw adr aim ard asc ath awl alo atr sh), (cW k au su)] [(cR k ard s1)] hP
    have hD := zjD [(cH k ah aw adr aim ard asc ath awl alo atr sh), (cW k au su)] [(cR k ard s1)] hD
    have hP : va_P D zCl ((cH k ah aw adr aim ard asc ath awl alo atr sh) ++ ((cW k au su) ++ (cR k ard s1))) _ := hP
    have hD : va_D A ((cH k ah aw adr aim ard asc ath awl alo atr sh) ++ ((cW k au su) ++ (cR k ard s1))) := hD
    refine lv_if_eq (tgt := 11) hx hb dX1_houseText_7 (by decide) (fun c1 => absurd c1 (by decide)) (fun _ => ?_)
    cases hrun
    exact vx_ret (retW_v hx hb hr hlocks hP hD hS ⟨_, _, rfl, rfl, rfl⟩ dX1_houseText_10)
  | false =>
    obtain rfl : c9 = 1 := by rw [← hc9]; unfold hcost; rw [h0]
    refine CtX.of (by decide) (Nat.le_of_ble_eq_true rfl) ?_
    intro p e s m args below meth c A hE hnoh hA hP hD hS hz ls hl
    obtain ⟨hx, hb, hr, hml, hown, hts, hlocks, hname⟩ := hE
    have hown : s.vm.findClass RX1 = some m.cls := hown
    have hK := hOK.1 _ _ _ hz
    have hN := hOK.2.1 _ _ _ hz
    have hl : lv_has ls 3 [(0, .ref (ah 0)), (1, .ref (au 0))] := hl
    refine lv_aload_n hx hb dX1_houseText_0 rfl (lv_at hl 0 rfl) ?_
    refine va_get (ci := 1) (v := .ref (ard 0)) (C := RX1) (T := TX1) (N := 10) hx hb hts in_X1 hown hK hP 0 rfl rfl 4 (by decide) (hts _ q375) (fun _ h9 => h9) rfl dX1_houseText_1 ?_
    have hP : va_P D zCl (zcat [(cH k ah aw adr aim ard asc ath awl alo atr sh), (cW k au su), (cR k ard srd)]) _ := hP
    have hD : va_D A (zcat [(cH k ah aw adr aim ard asc ath awl alo atr sh), (cW k au su), (cR k ard srd)]) := hD
    have hP := zsP [(cH k ah aw adr aim ard asc ath awl alo atr sh), (cW k au su), (cR k ard srd)] 3 [0, 1] [2] hP rfl (by decide)
    have hD := zsD [(cH k ah aw adr aim ard asc ath awl alo atr sh), (cW k au su), (cR k ard srd)] 3 [0, 1] [2] hD rfl (by decide)
    have hP : va_P D zCl (((cH k ah aw adr aim ard asc ath awl alo atr sh) ++ (cW k au su)) ++ (cR k ard srd)) _ := hP
    have hD : va_D A (((cH k ah aw adr aim ard asc ath awl alo atr sh) ++ (cW k au su)) ++ (cR k ard srd)) := hD
    refine cWVP ((cH k ah aw adr aim ard asc ath awl alo atr sh) ++ (cW k au su)) (cR k ard srd) (As := []) (ci := 3) ⟨hx, hb, hml, hown, hts⟩ hOK hz hS hA hP hD (mtX3_isOver l D k ard Z hOK srd _ s1 h0) (kX3_isOver hts q767 rfl rfl ⟨Nat.le_of_ble_eq_true rfl, Nat.le_of_ble_eq_true rfl⟩) 0 rfl rfl rfl hl.1 rfl (lv_room (Nat.le_of_ble_eq_true rfl)) ⟨Nat.le_of_ble_eq_true rfl, Nat.le_of_ble_eq_true rfl⟩ dX1_houseText_4 (fun r_ w_ H locs hq hP hD hS => ?_)
    obtain ⟨rfl, rfl⟩ := hq
    have hP : va_P D zCl (((cH k ah aw adr aim ard asc ath awl alo atr sh) ++ (cW k au su)) ++ (cR k ard s1)) _ := hP
    have hD : va_D A (((cH k ah aw adr aim ard asc ath awl alo atr sh) ++ (cW k au su)) ++ (cR k ard s1)) := hD
    have hP := zjP [(cH k ah aw adr aim ard asc ath awl alo atr sh), (cW k au su)] [(cR k ard s1)] hP
    have hD := zjD [(cH k ah aw adr aim ard asc ath awl alo atr sh), (cW k au su)] [(cR k ard s1)] hD
    have hP : va_P D zCl ((cH k ah aw adr aim ard asc ath awl alo atr sh) ++ ((cW k au su) ++ (cR k ard s1))) _ := hP
    have hD : va_D A ((cH k ah aw adr aim ard asc ath awl alo atr sh) ++ ((cW k au su) ++ (cR k ard s1))) := hD
    refine lv_if_eq (tgt := 11) hx hb dX1_houseText_7 (by decide) (fun _ => ?_) (fun c1 => absurd rfl c1)
    refine lv_iconst (v := (0 : Int32)) hx hb dX1_houseText_11 (by decide) ?_
    refine lv_istore_n (lv' := [(2, .int (0 : Int32)), (0, .ref (ah 0)), (1, .ref (au 0))]) hx hb dX1_houseText_12 rfl hl (by decide) rfl (fun ls hl => ?_)
    have key : ∀ (j : Nat), j ≤ 14 → ∀ (su : Wd) (srd : Rd) (H : Heap) (locs : List Loc), va_P D zCl ((cH k ah aw adr aim ard asc ath awl alo atr sh) ++ ((cW k au su) ++ (cR k ard srd))) H → va_D A ((cH k ah aw adr aim ard asc ath awl alo atr sh) ++ ((cW k au su) ++ (cR k ard srd))) → va_S A s.heap H locs → ∀ ls : Array Slot, lv_has ls 3 [(2, .int (nI (14 - j))), (0, .ref (ah 0)), (1, .ref (au 0))] → fX1_hTL sh j su srd = some o → W p l e (rX1_hText 1) s m args below meth c H locs (51 * (14 - j)) (8036 * (14 - j)) (vx_MQ below (QWr (fun r' w' => ∃ (ou : Wd) (ord : Rd), o = .inr (ou, ord) ∧ r' = none ∧ w' = ((cH k ah aw adr aim ard asc ath awl alo atr sh) ++ ((cW k au ou) ++ (cR k ard ord)))) D zCl A) (QXr (fun E' w' => ∃ (ou : Wd) (ord : Rd), o = .inl (E', (ou, ord)) ∧ w' = ((cH k ah aw adr aim ard asc ath awl alo atr sh) ++ ((cW k au ou) ++ (cR k ard ord)))) D zCl A) args s (724 * 1) (114110 * 1) A) (F0 m 13 ls []) := by
      intro j
      induction j with
      | zero =>
        intro hj su srd H locs hP hD hS ls hl hrun
        rw [fX1_hTL.eq_1] at hrun
        obtain ⟨o1, h1, hrun⟩ := mox_s rfl hrun
        refine lv_aload_n hx hb dX1_houseText_13 rfl (lv_at hl 1 rfl) ?_
        refine lv_iload_n hx hb dX1_houseText_14 rfl (lv_at hl 0 rfl) ?_
        refine lv_bipush (v := (14 : Int32)) hx hb dX1_houseText_15 (by decide) ?_
        have hP : va_P D zCl (zcat [(cH k ah aw adr aim ard asc ath awl alo atr sh), (cW k au su), (cR k ard srd)]) _ := hP
        have hD : va_D A (zcat [(cH k ah aw adr aim ard asc ath awl alo atr sh), (cW k au su), (cR k ard srd)]) := hD
        have hP := zsP [(cH k ah aw adr aim ard asc ath awl alo atr sh), (cW k au su), (cR k ard srd)] 3 [0, 2] [1] hP rfl (by decide)
        have hD := zsD [(cH k ah aw adr aim ard asc ath awl alo atr sh), (cW k au su), (cR k ard srd)] 3 [0, 2] [1] hD rfl (by decide)
        have hP : va_P D zCl ([] ++ (((cH k ah aw adr aim ard asc ath awl alo atr sh) ++ (cR k ard srd)) ++ (cW k au su))) _ := hP
        have hD : va_D A ([] ++ (((cH k ah aw adr aim ard asc ath awl alo atr sh) ++ (cR k ard srd)) ++ (cW k au su))) := hD
        refine cXV [] ((cH k ah aw adr aim ard asc ath awl alo atr sh) ++ (cR k ard srd)) (cW k au su) (As := [.int (nI 14), .int (14 : Int32)]) (ci := 1) ⟨hx, hb, hml, hown, hts⟩ hOK hz hS hA hP hD (mtX1_noMore l D k ah aw adr aim ard asc ath awl alo atr Z hOK hlt hTh hStr hPv sh srd (nI 14) 14 o1 h1) (kX1_noMore hts q779 rfl rfl ⟨Nat.le_of_ble_eq_true rfl, Nat.le_of_ble_eq_true rfl⟩) 0 rfl rfl rfl hl.1 rfl (lv_room (Nat.le_of_ble_eq_true rfl)) ⟨Nat.le_of_ble_eq_true rfl, Nat.le_of_ble_eq_true rfl⟩ dX1_houseText_17 (fun E_ w_ ce_ q9_ H locs hq hP hD hS hce hcv hcl => ?_) (fun r_ w_ H locs hq hP hD hS => ?_)
        · obtain ⟨ord, rfl, rfl⟩ := hq
          have hrun := moxl hrun
          cases hrun
          have hP : va_P D zCl (((cH k ah aw adr aim ard asc ath awl alo atr sh) ++ (cR k ard ord)) ++ (cW k au su)) _ := hP
          have hD : va_D A (((cH k ah aw adr aim ard asc ath awl alo atr sh) ++ (cR k ard ord)) ++ (cW k au su)) := hD
          have hP := zjP [(cH k ah aw adr aim ard asc ath awl alo atr sh), (cR k ard ord)] [(cW k au su)] hP
          have hD := zjD [(cH k ah aw adr aim ard asc ath awl alo atr sh), (cR k ard ord)] [(cW k au su)] hD
          have hP := zbP [(cH k ah aw adr aim ard asc ath awl alo atr sh), (cR k ard ord), (cW k au su)] 3 [0, 2, 1] hP rfl (by decide)
          have hD := zbD [(cH k ah aw adr aim ard asc ath awl alo atr sh), (cR k ard ord), (cW k au su)] 3 [0, 2, 1] hD rfl (by decide)
          have hP : va_P D zCl ((cH k ah aw adr aim ard asc ath awl alo atr sh) ++ ((cW k au su) ++ (cR k ard ord))) _ := hP
          have hD : va_D A ((cH k ah aw adr aim ard asc ath awl alo atr sh) ++ ((cW k au su) ++ (cR k ard ord))) := hD
          exact zout hnoh hlocks hce hcv hcl hP hD hS ⟨_, _, rfl, rfl⟩ (Nat.le_of_ble_eq_true rfl) (Nat.le_of_ble_eq_true rfl)
        · obtain ⟨ord, rfl, rfl, rfl⟩ := hq
          exact nomatch (moxr hrun)
      | succ j ih =>
        intro hj su srd H locs hP hD hS ls hl hrun
        rw [fX1_hTL.eq_2] at hrun
        obtain ⟨o1, h1, hrun⟩ := mox_s rfl hrun
        refine lv_aload_n hx hb dX1_houseText_13 rfl (lv_at hl 1 rfl) ?_
        refine lv_iload_n hx hb dX1_houseText_14 rfl (lv_at hl 0 rfl) ?_
        refine lv_bipush (v := (14 : Int32)) hx hb dX1_houseText_15 (by decide) ?_
        refine cRV (As := [.int (nI (14 - (j + 1))), .int (14 : Int32)]) (ci := 1) ⟨hx, hb, hml, hown, hts⟩ hOK hz hS (hP.sub (ws' := (cH k ah aw adr aim ard asc ath awl alo atr sh)) [0] rfl) (mtX1_noMore_t l D k Z hOK ah aw adr aim ard asc ath awl alo atr sh (nI (14 - (j + 1))) 14 (by rw [li14]; exact nI_ge (by omega) (by omega))) (kX1_noMore hts q779 rfl rfl ⟨Nat.le_of_ble_eq_true rfl, Nat.le_of_ble_eq_true rfl⟩) 0 rfl rfl rfl hl.1 rfl (lv_room (Nat.le_of_ble_eq_true rfl)) ⟨(by show 51 * (14 - (j + 1)) ≤ 724 * 1; omega), (by show 8036 * (14 - (j + 1)) ≤ 114110 * 1; omega)⟩ dX1_houseText_17 ?_
        refine lv_aload_n hx hb dX1_houseText_20 rfl (lv_at hl 1 rfl) ?_
        refine lv_aload_n hx hb dX1_houseText_21 rfl (lv_at hl 2 rfl) ?_
        have hP := hP.sub (ws' := ([] ++ (((cH k ah aw adr aim ard asc ath awl alo atr sh) ++ ((cW k au su) ++ (cR k ard srd))) ++ []))) [0, 1, 2, 3, 4, 5, 6, 7, 8, 9, 10, 11] rfl
        have hD := hD.sub (ws' := ([] ++ (((cH k ah aw adr aim ard asc ath awl alo atr sh) ++ ((cW k au su) ++ (cR k ard srd))) ++ []))) [0, 1, 2, 3, 4, 5, 6, 7, 8, 9, 10, 11] (by decide) rfl
        refine cXV [] ((cH k ah aw adr aim ard asc ath awl alo atr sh) ++ ((cW k au su) ++ (cR k ard srd))) [] (As := [.ref (au 0)]) (ci := 1) ⟨hx, hb, hml, hown, hts⟩ hOK hz hS hA hP hD (mtX1_hline l D k ah aw adr aim ard asc ath awl alo atr au Z hOK hlt hTh hStr hPv sh su srd o1 h1) (kX1_houseLine hts q1137 rfl rfl ⟨Nat.le_of_ble_eq_true rfl, Nat.le_of_ble_eq_true rfl⟩) 0 rfl rfl rfl hl.1 rfl (lv_room (Nat.le_of_ble_eq_true rfl)) ⟨(by show 51 * (14 - (j + 1)) + 50 ≤ 724 * 1; omega), (by show 8036 * (14 - (j + 1)) + 8030 ≤ 114110 * 1; omega)⟩ dX1_houseText_22 (fun E_ w_ ce_ q9_ H locs hq hP hD hS hce hcv hcl => ?_) (fun r_ w_ H locs hq hP hD hS => ?_)
        · obtain ⟨ou, ord, rfl, rfl⟩ := hq
          have hrun := moxl hrun
          cases hrun
          have hP := hP.sub (ws' := ((cH k ah aw adr aim ard asc ath awl alo atr sh) ++ ((cW k au ou) ++ (cR k ard ord)))) [0, 1, 2, 3, 4, 5, 6, 7, 8, 9, 10, 11] rfl
          have hD := hD.sub (ws' := ((cH k ah aw adr aim ard asc ath awl alo atr sh) ++ ((cW k au ou) ++ (cR k ard ord)))) [0, 1, 2, 3, 4, 5, 6, 7, 8, 9, 10, 11] (by decide) rfl
          exact zout hnoh hlocks hce hcv hcl hP hD hS ⟨_, _, rfl, rfl⟩ (by show _ ≤ 724 * 1; omega) (by show _ ≤ 114110 * 1; omega)
        obtain ⟨su1, srd1, rfl, rfl, rfl⟩ := hq
        have hrun := moxr hrun
        obtain ⟨o2, h2, hrun⟩ := mox_s rfl hrun
        have hP := hP.sub (ws' := ((cH k ah aw adr aim ard asc ath awl alo atr sh) ++ ((cW k au su1) ++ (cR k ard srd1)))) [0, 1, 2, 3, 4, 5, 6, 7, 8, 9, 10, 11] rfl
        have hD := hD.sub (ws' := ((cH k ah aw adr aim ard asc ath awl alo atr sh) ++ ((cW k au su1) ++ (cR k ard srd1)))) [0, 1, 2, 3, 4, 5, 6, 7, 8, 9, 10, 11] (by decide) rfl
        refine lv_iinc (v := nI (14 - (j + 1)) + 1) (lv' := [(2, .int (nI (14 - (j + 1)) + 1)), (0, .ref (ah 0)), (1, .ref (au 0))]) hx hb dX1_houseText_25 hl (k := 0) rfl rfl (by decide) rfl (fun ls hl => ?_)
        rw [← nI_succ, show 14 - (j + 1) + 1 = 14 - j by omega] at hl
        refine lv_aload_n hx hb dX1_houseText_28 rfl (lv_at hl 1 rfl) ?_
        have hP : va_P D zCl (zcat [(cH k ah aw adr aim ard asc ath awl alo atr sh), (cW k au su1), (cR k ard srd1)]) _ := hP
        have hD : va_D A (zcat [(cH k ah aw adr aim ard asc ath awl alo atr sh), (cW k au su1), (cR k ard srd1)]) := hD
        have hP := zsP [(cH k ah aw adr aim ard asc ath awl alo atr sh), (cW k au su1), (cR k ard srd1)] 3 [0, 2] [1] hP rfl (by decide)
        have hD := zsD [(cH k ah aw adr aim ard asc ath awl alo atr sh), (cW k au su1), (cR k ard srd1)] 3 [0, 2] [1] hD rfl (by decide)
        have hP : va_P D zCl ([] ++ (((cH k ah aw adr aim ard asc ath awl alo atr sh) ++ (cR k ard srd1)) ++ (cW k au su1))) _ := hP
        have hD : va_D A ([] ++ (((cH k ah aw adr aim ard asc ath awl alo atr sh) ++ (cR k ard srd1)) ++ (cW k au su1))) := hD
        refine cXV [] ((cH k ah aw adr aim ard asc ath awl alo atr sh) ++ (cR k ard srd1)) (cW k au su1) (As := []) (ci := 1) ⟨hx, hb, hml, hown, hts⟩ hOK hz hS hA hP hD (mtX1_goesOn l D k ah aw adr aim ard asc ath awl alo atr Z hOK hlt hTh sh srd1 o2 h2) (kX1_goesOn hts q1258 rfl rfl ⟨Nat.le_of_ble_eq_true rfl, Nat.le_of_ble_eq_true rfl⟩) 0 rfl rfl rfl hl.1 rfl (lv_room (Nat.le_of_ble_eq_true rfl)) ⟨(by show 51 * (14 - (j + 1)) + 50 + 1 ≤ 724 * 1; omega), (by show 8036 * (14 - (j + 1)) + 8030 + 6 ≤ 114110 * 1; omega)⟩ dX1_houseText_29 (fun E_ w_ ce_ q9_ H locs hq hP hD hS hce hcv hcl => ?_) (fun r_ w_ H locs hq hP hD hS => ?_)
        · obtain ⟨ord, rfl, rfl⟩ := hq
          have hrun := moxl hrun
          cases hrun
          have hP : va_P D zCl (((cH k ah aw adr aim ard asc ath awl alo atr sh) ++ (cR k ard ord)) ++ (cW k au su1)) _ := hP
          have hD : va_D A (((cH k ah aw adr aim ard asc ath awl alo atr sh) ++ (cR k ard ord)) ++ (cW k au su1)) := hD
          have hP := zjP [(cH k ah aw adr aim ard asc ath awl alo atr sh), (cR k ard ord)] [(cW k au su1)] hP
          have hD := zjD [(cH k ah aw adr aim ard asc ath awl alo atr sh), (cR k ard ord)] [(cW k au su1)] hD
          have hP := zbP [(cH k ah aw adr aim ard asc ath awl alo atr sh), (cR k ard ord), (cW k au su1)] 3 [0, 2, 1] hP rfl (by decide)
          have hD := zbD [(cH k ah aw adr aim ard asc ath awl alo atr sh), (cR k ard ord), (cW k au su1)] 3 [0, 2, 1] hD rfl (by decide)
          have hP : va_P D zCl ((cH k ah aw adr aim ard asc ath awl alo atr sh) ++ ((cW k au su1) ++ (cR k ard ord))) _ := hP
          have hD : va_D A ((cH k ah aw adr aim ard asc ath awl alo atr sh) ++ ((cW k au su1) ++ (cR k ard ord))) := hD
          exact zout hnoh hlocks hce hcv hcl hP hD hS ⟨_, _, rfl, rfl⟩ (by show _ ≤ 724 * 1; omega) (by show _ ≤ 114110 * 1; omega)
        obtain ⟨b2, srd2, rfl, rfl, rfl⟩ := hq
        have hrun := moxr hrun
        have hP : va_P D zCl (((cH k ah aw adr aim ard asc ath awl alo atr sh) ++ (cR k ard srd2)) ++ (cW k au su1)) _ := hP
        have hD : va_D A (((cH k ah aw adr aim ard asc ath awl alo atr sh) ++ (cR k ard srd2)) ++ (cW k au su1)) := hD
        have hP := zjP [(cH k ah aw adr aim ard asc ath awl alo atr sh), (cR k ard srd2)] [(cW k au su1)] hP
        have hD := zjD [(cH k ah aw adr aim ard asc ath awl alo atr sh), (cR k ard srd2)] [(cW k au su1)] hD
        have hP := zbP [(cH k ah aw adr aim ard asc ath awl alo atr sh), (cR k ard srd2), (cW k au su1)] 3 [0, 2, 1] hP rfl (by decide)
        have hD := zbD [(cH k ah aw adr aim ard asc ath awl alo atr sh), (cR k ard srd2), (cW k au su1)] 3 [0, 2, 1] hD rfl (by decide)
        have hP : va_P D zCl ((cH k ah aw adr aim ard asc ath awl alo atr sh) ++ ((cW k au su1) ++ (cR k ard srd2))) _ := hP
        have hD : va_D A ((cH k ah aw adr aim ard asc ath awl alo atr sh) ++ ((cW k au su1) ++ (cR k ard srd2))) := hD
        cases b2 with
        | true =>
          refine lv_if_ne (tgt := 13) hx hb dX1_houseText_32 (by decide) (fun _ => ?_) (fun c1 => absurd c1 (by decide))
          refine W.widen (k := 51 * (14 - j)) (n := 8036 * (14 - j)) (by omega) (by omega) ?_
          exact ih (by omega) su1 srd2 H locs hP hD hS ls hl (mif_p rfl hrun)
        | false =>
          refine lv_if_ne (tgt := 13) hx hb dX1_houseText_32 (by decide) (fun c1 => absurd rfl c1) (fun _ => ?_)
          have hrun := mif_n (by exact Bool.false_ne_true) hrun
          cases hrun
          refine W.widen (k := 724 * 1) (n := 114110 * 1) (by omega) (by omega) ?_
          exact vx_ret (retW_v hx hb hr hlocks hP hD hS ⟨_, _, rfl, rfl, rfl⟩ dX1_houseText_35)
    exact key 14 (Nat.le_refl _) su s1 H locs hP hD hS ls hl (mif_n (by decide) hrun)
noncomputable def mstr {α : Type} (a b : String) (K : Option α) : Option α := if a = b then K else none
theorem mstr_s {α : Type} {a b : String} {K o : Option α} {v : α} (ho : o = some v) (h : mstr a b K = o) : a = b ∧ K = o := by
  unfold mstr at h
  by_cases q : a = b
  · rw [if_pos q] at h; exact ⟨q, h⟩
  · rw [if_neg q, ho] at h; exact nomatch h
noncomputable def fX1_house (sh : Kp) (sw sdr : Wd) (srd : Rd) : Option ((String × Wd × Rd) ⊕ (Int32 × Wd × Wd × Rd)) :=
  mob (fX3_begins srd) fun r0 => mob (fX2_likens sdr sw) fun d0 => mox (fX1_hText sh d0 r0)
    (fun E => mstr E.1 "SaturdayKeep$Wrong" <| mox (fX1_fails sh E.2.2) (fun X => some (.inl (X.1, (E.2.1, X.2)))) fun _ => none)
    (fun q => if wd_texts sw = (12 : Int32) then some (.inl ("java/lang/UnsupportedOperationException", (q.1, rd_s_fault q.2 (-1 : Int32)))) else
      mob (fX2_likens sw (wd_s_texts q.1 (wd_texts q.1 + 1))) fun w1 => some (.inr (wd_texts w1, (w1, (wd_s_texts q.1 (wd_texts q.1 + 1), rd_s_fault q.2 (-1 : Int32))))))
noncomputable def hcostB (srd : Rd) : Nat := match fX3_begins srd with
  | some r0 => hcost r0
  | none => 0
def rX1_house (c : Nat) : Room := rLs 14 (724 * c + 1) (114110 * c + 6) 560
abbrev hhX1_house : List (Nat × Nat × Nat × Nat) := [(19, 35, 38, 208)]
theorem kX1_house {R : Room} {s : State} {args : Array Value} {own : String} {idx mc ms : Nat} {rm : Room} (hts : ∀ w ∈ lw_all, w.before args s = true) (hl : Cond.methodLink own idx yX1_house ∈ lw_all) (hrc : rm.cells = mc) (hrs : rm.slots = ms) (hR : rm.frames + 1 ≤ R.frames ∧ 8 + (2 + 11) + rm.locals ≤ R.locals) : vx_CVW R s args own RX1 idx yX1_house cX1_house 2 (some .int) hhX1_house (wsW_ yX1_house cX1_house 2 (some .int) hhX1_house) rm mc ms 0 :=
  vx_cwVW 0 hts (lw_VW hl q755 q756 q107 q757) rfl hrc hrs (by decide +kernel) hR
theorem not_ne9 {a b : Int32} (h : a = b) : a = b := h
set_option maxRecDepth 100000 in
theorem mtX1_house (l : Launch) (D : va_G) (k : Nat → ClassId) (ah aw adr aim ard asc ath awl alo atr : Nat → Nat) (Z : zZ) (hOK : zOK D zCl (zTys k) Z) (hlt : l.stackTraces = false) (hTh : zTh Z) {adK adV : Nat → Nat} (hStr : zStr Z adK adV) (hPv : zPv Z) {e0 : Nat} (us : List Wd) (w0 : va_W) (hw : wlP k e0 (awl 0) us w0) (sh : Kp) (sw sdr : Wd) (srd : Rd) (o : (String × Wd × Rd) ⊕ (Int32 × Wd × Wd × Rd)) (hrun : fX1_house sh sw sdr srd = some o) (c9 : Nat) (hc9 : hcostB srd = c9) : CtXH l yX1_house cX1_house 2 (some .int) hhX1_house (rX1_house c9) Z D zCl ((cH k ah aw adr aim ard asc ath awl alo atr sh) ++ ((cW k aw sw) ++ ((cW k adr sdr) ++ ((cR k ard srd) ++ w0)))) [.ref (ah 0)] (fun r' w' => ∃ (T : va_W) (r : Int32) (ow odr : Wd) (ord : Rd), wlP k e0 (awl 0) [] T ∧ o = .inr (r, (ow, (odr, ord))) ∧ r' = some (.int r) ∧ w' = ((cH k ah aw adr aim ard asc ath awl alo atr sh) ++ ((cW k aw ow) ++ ((cW k adr odr) ++ ((cR k ard ord) ++ T))))) (fun E' w' => ∃ (odr : Wd) (ord : Rd), o = .inl (E', (odr, ord)) ∧ w' = ((cH k ah aw adr aim ard asc ath awl alo atr sh) ++ ((cW k aw sw) ++ ((cW k adr odr) ++ ((cR k ard ord) ++ w0))))) (724 * c9 + 1) (114110 * c9 + 6) := by
  refine CtXH.of (by decide) (Nat.le_of_ble_eq_true rfl) ?_
  intro p e s m args below meth c A hE htab hA hP hD hS hz ls hl
  obtain ⟨hx, hb, hr, hml, hown, hts, hlocks, hname⟩ := hE
  have hown : s.vm.findClass RX1 = some m.cls := hown
  have hK := hOK.1 _ _ _ hz
  have hN := hOK.2.1 _ _ _ hz
  have hl : lv_has ls 2 [(0, .ref (ah 0))] := hl
  unfold fX1_house at hrun
  obtain ⟨r0, h0, hrun⟩ := mob_s rfl hrun
  obtain ⟨d0, h1, hrun⟩ := mob_s rfl hrun
  obtain ⟨o2, h2, hrun⟩ := mox_s rfl hrun
  have hc0 : hcost r0 = c9 := by rw [← hc9]; unfold hcostB; rw [h0]
  refine lv_aload_n hx hb dX1_house_0 rfl (lv_at hl 0 rfl) ?_
  refine va_get (ci := 1) (v := .ref (ard 0)) (C := RX1) (T := TX1) (N := 10) hx hb hts in_X1 hown hK hP 0 rfl rfl 4 (by decide) (hts _ q375) (fun _ h9 => h9) rfl dX1_house_1 ?_
  have hP : va_P D zCl (zcat [(cH k ah aw adr aim ard asc ath awl alo atr sh), (cW k aw sw), (cW k adr sdr), (cR k ard srd), w0]) _ := hP
  have hD : va_D A (zcat [(cH k ah aw adr aim ard asc ath awl alo atr sh), (cW k aw sw), (cW k adr sdr), (cR k ard srd), w0]) := hD
  have hP := zsP [(cH k ah aw adr aim ard asc ath awl alo atr sh), (cW k aw sw), (cW k adr sdr), (cR k ard srd), w0] 5 [0, 1, 2, 4] [3] hP rfl (by decide)
  have hD := zsD [(cH k ah aw adr aim ard asc ath awl alo atr sh), (cW k aw sw), (cW k adr sdr), (cR k ard srd), w0] 5 [0, 1, 2, 4] [3] hD rfl (by decide)
  have hP : va_P D zCl (((cH k ah aw adr aim ard asc ath awl alo atr sh) ++ ((cW k aw sw) ++ ((cW k adr sdr) ++ w0))) ++ (cR k ard srd)) _ := hP
  have hD : va_D A (((cH k ah aw adr aim ard asc ath awl alo atr sh) ++ ((cW k aw sw) ++ ((cW k adr sdr) ++ w0))) ++ (cR k ard srd)) := hD
  refine cWVP ((cH k ah aw adr aim ard asc ath awl alo atr sh) ++ ((cW k aw sw) ++ ((cW k adr sdr) ++ w0))) (cR k ard srd) (As := []) (ci := 3) ⟨hx, hb, hml, hown, hts⟩ hOK hz hS hA hP hD (mtX3_begins l D k ard Z hOK srd r0 h0) (kX3_begins hts q759 rfl rfl ⟨Nat.le_of_ble_eq_true rfl, Nat.le_of_ble_eq_true rfl⟩) 0 rfl rfl rfl hl.1 rfl (lv_room (Nat.le_of_ble_eq_true rfl)) ⟨(by show 0 + 0 ≤ 724 * c9 + 1; omega), (by show 0 + 0 ≤ 114110 * c9 + 6; omega)⟩ dX1_house_4 (fun r_ w_ H locs hq hP hD hS => ?_)
  obtain ⟨rfl, rfl⟩ := hq
  have hP : va_P D zCl (((cH k ah aw adr aim ard asc ath awl alo atr sh) ++ ((cW k aw sw) ++ ((cW k adr sdr) ++ w0))) ++ (cR k ard r0)) _ := hP
  have hD : va_D A (((cH k ah aw adr aim ard asc ath awl alo atr sh) ++ ((cW k aw sw) ++ ((cW k adr sdr) ++ w0))) ++ (cR k ard r0)) := hD
  have hP := zjP [(cH k ah aw adr aim ard asc ath awl alo atr sh), (cW k aw sw), (cW k adr sdr), w0] [(cR k ard r0)] hP
  have hD := zjD [(cH k ah aw adr aim ard asc ath awl alo atr sh), (cW k aw sw), (cW k adr sdr), w0] [(cR k ard r0)] hD
  have hP := zbP [(cH k ah aw adr aim ard asc ath awl alo atr sh), (cW k aw sw), (cW k adr sdr), w0, (cR k ard r0)] 5 [0, 1, 2, 4, 3] hP rfl (by decide)
  have hD := zbD [(cH k ah aw adr aim ard asc ath awl alo atr sh), (cW k aw sw), (cW k adr sdr), w0, (cR k ard r0)] 5 [0, 1, 2, 4, 3] hD rfl (by decide)
  have hP : va_P D zCl ((cH k ah aw adr aim ard asc ath awl alo atr sh) ++ ((cW k aw sw) ++ ((cW k adr sdr) ++ ((cR k ard r0) ++ w0)))) _ := hP
  have hD : va_D A ((cH k ah aw adr aim ard asc ath awl alo atr sh) ++ ((cW k aw sw) ++ ((cW k adr sdr) ++ ((cR k ard r0) ++ w0)))) := hD
  refine lv_aload_n hx hb dX1_house_7 rfl (lv_at hl 0 rfl) ?_
  refine va_get (ci := 1) (v := .ref (adr 0)) (C := RX1) (T := TX1) (N := 10) hx hb hts in_X1 hown hK hP 0 rfl rfl 1 (by decide) (hts _ q372) (fun _ h9 => h9) rfl dX1_house_8 ?_
  refine lv_aload_n hx hb dX1_house_11 rfl (lv_at hl 0 rfl) ?_
  refine va_get (ci := 1) (v := .ref (aw 0)) (C := RX1) (T := TX1) (N := 10) hx hb hts in_X1 hown hK hP 0 rfl rfl 0 (by decide) (hts _ q370) (fun _ h9 => h9) rfl dX1_house_12 ?_
  have hP : va_P D zCl (zcat [(cH k ah aw adr aim ard asc ath awl alo atr sh), (cW k aw sw), (cW k adr sdr), (cR k ard r0), w0]) _ := hP
  have hD : va_D A (zcat [(cH k ah aw adr aim ard asc ath awl alo atr sh), (cW k aw sw), (cW k adr sdr), (cR k ard r0), w0]) := hD
  have hP := zsP [(cH k ah aw adr aim ard asc ath awl alo atr sh), (cW k aw sw), (cW k adr sdr), (cR k ard r0), w0] 5 [0, 3, 4] [2, 1] hP rfl (by decide)
  have hD := zsD [(cH k ah aw adr aim ard asc ath awl alo atr sh), (cW k aw sw), (cW k adr sdr), (cR k ard r0), w0] 5 [0, 3, 4] [2, 1] hD rfl (by decide)
  have hP : va_P D zCl (((cH k ah aw adr aim ard asc ath awl alo atr sh) ++ ((cR k ard r0) ++ w0)) ++ ((cW k adr sdr) ++ (cW k aw sw))) _ := hP
  have hD : va_D A (((cH k ah aw adr aim ard asc ath awl alo atr sh) ++ ((cR k ard r0) ++ w0)) ++ ((cW k adr sdr) ++ (cW k aw sw))) := hD
  refine cWVP ((cH k ah aw adr aim ard asc ath awl alo atr sh) ++ ((cR k ard r0) ++ w0)) ((cW k adr sdr) ++ (cW k aw sw)) (As := [.ref (aw 0)]) (ci := 2) ⟨hx, hb, hml, hown, hts⟩ hOK hz hS hA hP hD (mtX2_likens l D k adr aw Z hOK sdr sw d0 h1) (kX2_likens hts q434 rfl rfl ⟨Nat.le_of_ble_eq_true rfl, Nat.le_of_ble_eq_true rfl⟩) 0 rfl rfl rfl hl.1 rfl (lv_room (Nat.le_of_ble_eq_true rfl)) ⟨(by show 0 + 0 + 0 ≤ 724 * c9 + 1; omega), (by show 0 + 0 + 0 ≤ 114110 * c9 + 6; omega)⟩ dX1_house_15 (fun r_ w_ H locs hq hP hD hS => ?_)
  obtain ⟨rfl, rfl⟩ := hq
  have hP : va_P D zCl (((cH k ah aw adr aim ard asc ath awl alo atr sh) ++ ((cR k ard r0) ++ w0)) ++ ((cW k adr d0) ++ (cW k aw sw))) _ := hP
  have hD : va_D A (((cH k ah aw adr aim ard asc ath awl alo atr sh) ++ ((cR k ard r0) ++ w0)) ++ ((cW k adr d0) ++ (cW k aw sw))) := hD
  have hP := zjP [(cH k ah aw adr aim ard asc ath awl alo atr sh), (cR k ard r0), w0] [(cW k adr d0), (cW k aw sw)] hP
  have hD := zjD [(cH k ah aw adr aim ard asc ath awl alo atr sh), (cR k ard r0), w0] [(cW k adr d0), (cW k aw sw)] hD
  have hP := zbP [(cH k ah aw adr aim ard asc ath awl alo atr sh), (cR k ard r0), w0, (cW k adr d0), (cW k aw sw)] 5 [0, 4, 3, 1, 2] hP rfl (by decide)
  have hD := zbD [(cH k ah aw adr aim ard asc ath awl alo atr sh), (cR k ard r0), w0, (cW k adr d0), (cW k aw sw)] 5 [0, 4, 3, 1, 2] hD rfl (by decide)
  have hP : va_P D zCl ((cH k ah aw adr aim ard asc ath awl alo atr sh) ++ ((cW k aw sw) ++ ((cW k adr d0) ++ ((cR k ard r0) ++ w0)))) _ := hP
  have hD : va_D A ((cH k ah aw adr aim ard asc ath awl alo atr sh) ++ ((cW k aw sw) ++ ((cW k adr d0) ++ ((cR k ard r0) ++ w0)))) := hD
  refine lv_pop hx hb dX1_house_18 rfl ?_
  refine lv_aload_n hx hb dX1_house_19 rfl (lv_at hl 0 rfl) ?_
  refine lv_aload_n hx hb dX1_house_20 rfl (lv_at hl 0 rfl) ?_
  refine va_get (ci := 1) (v := .ref (adr 0)) (C := RX1) (T := TX1) (N := 10) hx hb hts in_X1 hown hK hP 0 rfl rfl 1 (by decide) (hts _ q372) (fun _ h9 => h9) rfl dX1_house_21 ?_
  have hP : va_P D zCl (zcat [(cH k ah aw adr aim ard asc ath awl alo atr sh), (cW k aw sw), (cW k adr d0), (cR k ard r0), w0]) _ := hP
  have hD : va_D A (zcat [(cH k ah aw adr aim ard asc ath awl alo atr sh), (cW k aw sw), (cW k adr d0), (cR k ard r0), w0]) := hD
  have hP := zsP [(cH k ah aw adr aim ard asc ath awl alo atr sh), (cW k aw sw), (cW k adr d0), (cR k ard r0), w0] 5 [0, 2, 3] [1, 4] hP rfl (by decide)
  have hD := zsD [(cH k ah aw adr aim ard asc ath awl alo atr sh), (cW k aw sw), (cW k adr d0), (cR k ard r0), w0] 5 [0, 2, 3] [1, 4] hD rfl (by decide)
  have hP : va_P D zCl (((cH k ah aw adr aim ard asc ath awl alo atr sh) ++ ((cW k adr d0) ++ (cR k ard r0))) ++ ((cW k aw sw) ++ w0)) _ := hP
  have hD : va_D A (((cH k ah aw adr aim ard asc ath awl alo atr sh) ++ ((cW k adr d0) ++ (cR k ard r0))) ++ ((cW k aw sw) ++ w0)) := hD
  have hP : va_P D zCl ([] ++ (((cH k ah aw adr aim ard asc ath awl alo atr sh) ++ ((cW k adr d0) ++ (cR k ard r0))) ++ ((cW k aw sw) ++ w0))) _ := hP
  have hD : va_D A ([] ++ (((cH k ah aw adr aim ard asc ath awl alo atr sh) ++ ((cW k adr d0) ++ (cR k ard r0))) ++ ((cW k aw sw) ++ w0))) := hD
  refine cXV [] ((cH k ah aw adr aim ard asc ath awl alo atr sh) ++ ((cW k adr d0) ++ (cR k ard r0))) ((cW k aw sw) ++ w0) (As := [.ref (adr 0)]) (ci := 1) ⟨hx, hb, hml, hown, hts⟩ hOK hz hS hA hP hD (mtX1_hText l D k ah aw adr aim ard asc ath awl alo atr adr Z hOK hlt hTh hStr hPv sh d0 r0 o2 h2 c9 hc0) (kX1_houseText hts q763 rfl rfl ⟨Nat.le_of_ble_eq_true rfl, Nat.le_of_ble_eq_true rfl⟩) 0 rfl rfl rfl hl.1 rfl (lv_room (Nat.le_of_ble_eq_true rfl)) ⟨(by show 0 + 0 + 0 + 724 * c9 ≤ 724 * c9 + 1; omega), (by show 0 + 0 + 0 + 114110 * c9 ≤ 114110 * c9 + 6; omega)⟩ dX1_house_24 (fun E_ w_ ce_ q9_ H locs hq hP hD hS hce hcv hcl => ?_) (fun r_ w_ H locs hq hP hD hS => ?_)
  · obtain ⟨d1, r1, rfl, rfl⟩ := hq
    have hrun := moxl hrun
    obtain ⟨hE9, hrun⟩ := mstr_s rfl hrun
    have hE9 : E_ = "SaturdayKeep$Wrong" := hE9
    subst hE9
    obtain ⟨o3, h3, hrun⟩ := mox_s rfl hrun
    have hP : va_P D zCl (((cH k ah aw adr aim ard asc ath awl alo atr sh) ++ ((cW k adr d1) ++ (cR k ard r1))) ++ ((cW k aw sw) ++ w0)) _ := hP
    have hD : va_D A (((cH k ah aw adr aim ard asc ath awl alo atr sh) ++ ((cW k adr d1) ++ (cR k ard r1))) ++ ((cW k aw sw) ++ w0)) := hD
    have hP := zjP [(cH k ah aw adr aim ard asc ath awl alo atr sh), (cW k adr d1), (cR k ard r1)] [(cW k aw sw), w0] hP
    have hD := zjD [(cH k ah aw adr aim ard asc ath awl alo atr sh), (cW k adr d1), (cR k ard r1)] [(cW k aw sw), w0] hD
    have hP := zbP [(cH k ah aw adr aim ard asc ath awl alo atr sh), (cW k adr d1), (cR k ard r1), (cW k aw sw), w0] 5 [0, 3, 1, 2, 4] hP rfl (by decide)
    have hD := zbD [(cH k ah aw adr aim ard asc ath awl alo atr sh), (cW k adr d1), (cR k ard r1), (cW k aw sw), w0] 5 [0, 3, 1, 2, 4] hD rfl (by decide)
    have hP : va_P D zCl ((cH k ah aw adr aim ard asc ath awl alo atr sh) ++ ((cW k aw sw) ++ ((cW k adr d1) ++ ((cR k ard r1) ++ w0)))) _ := hP
    have hD : va_D A ((cH k ah aw adr aim ard asc ath awl alo atr sh) ++ ((cW k aw sw) ++ ((cW k adr d1) ++ ((cR k ard r1) ++ w0)))) := hD
    refine vx_catch (own := RX1) (name := "SaturdayKeep$Wrong") hown [] ⟨19, 35, 38, 208⟩ [] (htab.trans rfl) (fun z hz9 => nomatch hz9) (by decide) (by decide) (hts _ q758) (va_Nw.use rfl (hN _ (zN_of q1119 rfl))) hce hcv hcl ?_
    refine lv_astore_n (lv' := [(1, .ref q9_), (0, .ref (ah 0))]) hx hb dX1_house_38 rfl hl (by decide) rfl (fun ls hl => ?_)
    refine lv_aload_n hx hb dX1_house_39 rfl (lv_at hl 1 rfl) ?_
    have hP : va_P D zCl (zcat [(cH k ah aw adr aim ard asc ath awl alo atr sh), (cW k aw sw), (cW k adr d1), (cR k ard r1), w0]) _ := hP
    have hD : va_D A (zcat [(cH k ah aw adr aim ard asc ath awl alo atr sh), (cW k aw sw), (cW k adr d1), (cR k ard r1), w0]) := hD
    have hP := zsP [(cH k ah aw adr aim ard asc ath awl alo atr sh), (cW k aw sw), (cW k adr d1), (cR k ard r1), w0] 5 [0, 3] [1, 2, 4] hP rfl (by decide)
    have hD := zsD [(cH k ah aw adr aim ard asc ath awl alo atr sh), (cW k aw sw), (cW k adr d1), (cR k ard r1), w0] 5 [0, 3] [1, 2, 4] hD rfl (by decide)
    have hP : va_P D zCl (((cH k ah aw adr aim ard asc ath awl alo atr sh) ++ (cR k ard r1)) ++ ((cW k aw sw) ++ ((cW k adr d1) ++ w0))) _ := hP
    have hD : va_D A (((cH k ah aw adr aim ard asc ath awl alo atr sh) ++ (cR k ard r1)) ++ ((cW k aw sw) ++ ((cW k adr d1) ++ w0))) := hD
    have hP : va_P D zCl ([] ++ (((cH k ah aw adr aim ard asc ath awl alo atr sh) ++ (cR k ard r1)) ++ ((cW k aw sw) ++ ((cW k adr d1) ++ w0)))) _ := hP
    have hD : va_D A ([] ++ (((cH k ah aw adr aim ard asc ath awl alo atr sh) ++ (cR k ard r1)) ++ ((cW k aw sw) ++ ((cW k adr d1) ++ w0)))) := hD
    refine cXV [] ((cH k ah aw adr aim ard asc ath awl alo atr sh) ++ (cR k ard r1)) ((cW k aw sw) ++ ((cW k adr d1) ++ w0)) (As := []) (ci := 1) ⟨hx, hb, hml, hown, hts⟩ hOK hz hS hA hP hD (mtX1_fails l D k ah aw adr aim ard asc ath awl alo atr Z hOK hlt hTh sh r1 o3 h3) (kX1_fails hts q1266 rfl rfl ⟨Nat.le_of_ble_eq_true rfl, Nat.le_of_ble_eq_true rfl⟩) 0 rfl rfl rfl hl.1 rfl (lv_room (Nat.le_of_ble_eq_true rfl)) ⟨(by show 0 + 0 + 0 + 724 * c9 + 1 ≤ 724 * c9 + 1; omega), (by show 0 + 0 + 0 + 114110 * c9 + 6 ≤ 114110 * c9 + 6; omega)⟩ dX1_house_40 (fun E_ w_ ce_ q9_ H locs hq hP hD hS hce hcv hcl => ?_) (fun r_ w_ H locs hq hP hD hS => ?_)
    · obtain ⟨r2, rfl, rfl⟩ := hq
      have hrun := moxl hrun
      cases hrun
      have hP : va_P D zCl (((cH k ah aw adr aim ard asc ath awl alo atr sh) ++ (cR k ard r2)) ++ ((cW k aw sw) ++ ((cW k adr d1) ++ w0))) _ := hP
      have hD : va_D A (((cH k ah aw adr aim ard asc ath awl alo atr sh) ++ (cR k ard r2)) ++ ((cW k aw sw) ++ ((cW k adr d1) ++ w0))) := hD
      have hP := zjP [(cH k ah aw adr aim ard asc ath awl alo atr sh), (cR k ard r2)] [(cW k aw sw), (cW k adr d1), w0] hP
      have hD := zjD [(cH k ah aw adr aim ard asc ath awl alo atr sh), (cR k ard r2)] [(cW k aw sw), (cW k adr d1), w0] hD
      have hP := zbP [(cH k ah aw adr aim ard asc ath awl alo atr sh), (cR k ard r2), (cW k aw sw), (cW k adr d1), w0] 5 [0, 2, 3, 1, 4] hP rfl (by decide)
      have hD := zbD [(cH k ah aw adr aim ard asc ath awl alo atr sh), (cR k ard r2), (cW k aw sw), (cW k adr d1), w0] 5 [0, 2, 3, 1, 4] hD rfl (by decide)
      have hP : va_P D zCl ((cH k ah aw adr aim ard asc ath awl alo atr sh) ++ ((cW k aw sw) ++ ((cW k adr d1) ++ ((cR k ard r2) ++ w0)))) _ := hP
      have hD : va_D A ((cH k ah aw adr aim ard asc ath awl alo atr sh) ++ ((cW k aw sw) ++ ((cW k adr d1) ++ ((cR k ard r2) ++ w0)))) := hD
      exact zoutH (by rw [htab]; decide) hlocks hce hcv hcl hP hD hS ⟨_, _, rfl, rfl⟩ (by omega) (by omega)
    · obtain ⟨r2, rfl, rfl, rfl⟩ := hq
      exact nomatch (moxr hrun)
  obtain ⟨d1, r1, rfl, rfl, rfl⟩ := hq
  have hrun := moxr hrun
  have hP : va_P D zCl (((cH k ah aw adr aim ard asc ath awl alo atr sh) ++ ((cW k adr d1) ++ (cR k ard r1))) ++ ((cW k aw sw) ++ w0)) _ := hP
  have hD : va_D A (((cH k ah aw adr aim ard asc ath awl alo atr sh) ++ ((cW k adr d1) ++ (cR k ard r1))) ++ ((cW k aw sw) ++ w0)) := hD
  have hP := zjP [(cH k ah aw adr aim ard asc ath awl alo atr sh), (cW k adr d1), (cR k ard r1)] [(cW k aw sw), w0] hP
  have hD := zjD [(cH k ah aw adr aim ard asc ath awl alo atr sh), (cW k adr d1), (cR k ard r1)] [(cW k aw sw), w0] hD
  have hP := zbP [(cH k ah aw adr aim ard asc ath awl alo atr sh), (cW k adr d1), (cR k ard r1), (cW k aw sw), w0] 5 [0, 3, 1, 2, 4] hP rfl (by decide)
  have hD := zbD [(cH k ah aw adr aim ard asc ath awl alo atr sh), (cW k adr d1), (cR k ard r1), (cW k aw sw), w0] 5 [0, 3, 1, 2, 4] hD rfl (by decide)
  have hP : va_P D zCl ((cH k ah aw adr aim ard asc ath awl alo atr sh) ++ ((cW k aw sw) ++ ((cW k adr d1) ++ ((cR k ard r1) ++ w0)))) _ := hP
  have hD : va_D A ((cH k ah aw adr aim ard asc ath awl alo atr sh) ++ ((cW k aw sw) ++ ((cW k adr d1) ++ ((cR k ard r1) ++ w0)))) := hD
  refine lv_aload_n hx hb dX1_house_27 rfl (lv_at hl 0 rfl) ?_
  refine va_get (ci := 1) (v := .ref (ard 0)) (C := RX1) (T := TX1) (N := 10) hx hb hts in_X1 hown hK hP 0 rfl rfl 4 (by decide) (hts _ q375) (fun _ h9 => h9) rfl dX1_house_28 ?_
  refine lv_iconst (v := (-1 : Int32)) hx hb dX1_house_31 (by decide) ?_
  refine va_putN (ci := 3) (v := .int (-1 : Int32)) (ty := tyX3 5) (C := RX3) (T := TX3) (N := 7) hx hb hts in_X3 tyX3 tyX3_ok nmX3 hown hK hP hD hS 19 rfl rfl 5 (by decide) (va_Nw.use rfl (hN _ (zN_of q269 rfl))) (fun _ h9 => h9) rfl (tyX3_ok 5 (by decide)) rfl rfl (Nat.le_of_ble_eq_true rfl) dX1_house_32 (fun H locs hP hD hS => ?_)
  have hP : va_P D zCl ((cH k ah aw adr aim ard asc ath awl alo atr sh) ++ ((cW k aw sw) ++ ((cW k adr d1) ++ ((cR k ard (rd_s_fault r1 (-1 : Int32))) ++ w0)))) _ := hP
  have hD : va_D A ((cH k ah aw adr aim ard asc ath awl alo atr sh) ++ ((cW k aw sw) ++ ((cW k adr d1) ++ ((cR k ard (rd_s_fault r1 (-1 : Int32))) ++ w0)))) := hD
  refine lv_goto (tgt := 43) hx hb dX1_house_35 (by decide) ?_
  refine lv_aload_n hx hb dX1_house_43 rfl (lv_at hl 0 rfl) ?_
  refine va_get (ci := 1) (v := .ref (aw 0)) (C := RX1) (T := TX1) (N := 10) hx hb hts in_X1 hown hK hP 0 rfl rfl 0 (by decide) (hts _ q370) (fun _ h9 => h9) rfl dX1_house_44 ?_
  refine va_getN (ci := 2) (v := .int (wd_texts sw)) (C := RX2) (T := TX2) (N := 21) hx hb hts in_X2 hown hK hP 1 rfl rfl 0 (by decide) (va_Nw.use rfl (hN _ (zN_of q163 rfl))) (fun _ h9 => h9) rfl dX1_house_47 ?_
  refine lv_bipush (v := (12 : Int32)) hx hb dX1_house_50 (by decide) ?_
  refine lv_icmp_ne (tgt := 63) hx hb dX1_house_52 (by decide) (fun c1 => ?_) (fun c1 => ?_)
  · have hrun := mif_n c1 hrun
    obtain ⟨w1, h4, hrun⟩ := mob_s rfl hrun
    cases hrun
    refine lv_aload_n hx hb dX1_house_63 rfl (lv_at hl 0 rfl) ?_
    refine va_get (ci := 1) (v := .ref (adr 0)) (C := RX1) (T := TX1) (N := 10) hx hb hts in_X1 hown hK hP 0 rfl rfl 1 (by decide) (hts _ q372) (fun _ h9 => h9) rfl dX1_house_64 ?_
    refine lv_dup hx hb dX1_house_67 rfl ?_
    refine va_getN (ci := 2) (v := .int (wd_texts d1)) (C := RX2) (T := TX2) (N := 21) hx hb hts in_X2 hown hK hP 10 rfl rfl 0 (by decide) (va_Nw.use rfl (hN _ (zN_of q163 rfl))) (fun _ h9 => h9) rfl dX1_house_68 ?_
    refine lv_iconst (v := (1 : Int32)) hx hb dX1_house_71 (by decide) ?_
    refine lv_iadd hx hb dX1_house_72 ?_
    refine va_putN (ci := 2) (v := .int (wd_texts d1 + 1)) (ty := tyX2 0) (C := RX2) (T := TX2) (N := 21) hx hb hts in_X2 tyX2 tyX2_ok nmX2 hown hK hP hD hS 10 rfl rfl 0 (by decide) (va_Nw.use rfl (hN _ (zN_of q163 rfl))) (fun _ h9 => h9) rfl (tyX2_ok 0 (by decide)) rfl rfl (Nat.le_of_ble_eq_true rfl) dX1_house_73 (fun H locs hP hD hS => ?_)
    have hP : va_P D zCl ((cH k ah aw adr aim ard asc ath awl alo atr sh) ++ ((cW k aw sw) ++ ((cW k adr (wd_s_texts d1 (wd_texts d1 + 1))) ++ ((cR k ard (rd_s_fault r1 (-1 : Int32))) ++ w0)))) _ := hP
    have hD : va_D A ((cH k ah aw adr aim ard asc ath awl alo atr sh) ++ ((cW k aw sw) ++ ((cW k adr (wd_s_texts d1 (wd_texts d1 + 1))) ++ ((cR k ard (rd_s_fault r1 (-1 : Int32))) ++ w0)))) := hD
    refine lv_aload_n hx hb dX1_house_76 rfl (lv_at hl 0 rfl) ?_
    refine va_get (ci := 1) (v := .ref (aw 0)) (C := RX1) (T := TX1) (N := 10) hx hb hts in_X1 hown hK hP 0 rfl rfl 0 (by decide) (hts _ q370) (fun _ h9 => h9) rfl dX1_house_77 ?_
    refine lv_aload_n hx hb dX1_house_80 rfl (lv_at hl 0 rfl) ?_
    refine va_get (ci := 1) (v := .ref (adr 0)) (C := RX1) (T := TX1) (N := 10) hx hb hts in_X1 hown hK hP 0 rfl rfl 1 (by decide) (hts _ q372) (fun _ h9 => h9) rfl dX1_house_81 ?_
    have hP : va_P D zCl (zcat [(cH k ah aw adr aim ard asc ath awl alo atr sh), (cW k aw sw), (cW k adr (wd_s_texts d1 (wd_texts d1 + 1))), (cR k ard (rd_s_fault r1 (-1 : Int32))), w0]) _ := hP
    have hD : va_D A (zcat [(cH k ah aw adr aim ard asc ath awl alo atr sh), (cW k aw sw), (cW k adr (wd_s_texts d1 (wd_texts d1 + 1))), (cR k ard (rd_s_fault r1 (-1 : Int32))), w0]) := hD
    have hP := zsP [(cH k ah aw adr aim ard asc ath awl alo atr sh), (cW k aw sw), (cW k adr (wd_s_texts d1 (wd_texts d1 + 1))), (cR k ard (rd_s_fault r1 (-1 : Int32))), w0] 5 [0, 3, 4] [1, 2] hP rfl (by decide)
    have hD := zsD [(cH k ah aw adr aim ard asc ath awl alo atr sh), (cW k aw sw), (cW k adr (wd_s_texts d1 (wd_texts d1 + 1))), (cR k ard (rd_s_fault r1 (-1 : Int32))), w0] 5 [0, 3, 4] [1, 2] hD rfl (by decide)
    have hP : va_P D zCl (((cH k ah aw adr aim ard asc ath awl alo atr sh) ++ ((cR k ard (rd_s_fault r1 (-1 : Int32))) ++ w0)) ++ ((cW k aw sw) ++ (cW k adr (wd_s_texts d1 (wd_texts d1 + 1))))) _ := hP
    have hD : va_D A (((cH k ah aw adr aim ard asc ath awl alo atr sh) ++ ((cR k ard (rd_s_fault r1 (-1 : Int32))) ++ w0)) ++ ((cW k aw sw) ++ (cW k adr (wd_s_texts d1 (wd_texts d1 + 1))))) := hD
    refine cWVP ((cH k ah aw adr aim ard asc ath awl alo atr sh) ++ ((cR k ard (rd_s_fault r1 (-1 : Int32))) ++ w0)) ((cW k aw sw) ++ (cW k adr (wd_s_texts d1 (wd_texts d1 + 1)))) (As := [.ref (adr 0)]) (ci := 2) ⟨hx, hb, hml, hown, hts⟩ hOK hz hS hA hP hD (mtX2_likens l D k aw adr Z hOK sw _ w1 h4) (kX2_likens hts q434 rfl rfl ⟨Nat.le_of_ble_eq_true rfl, Nat.le_of_ble_eq_true rfl⟩) 0 rfl rfl rfl hl.1 rfl (lv_room (Nat.le_of_ble_eq_true rfl)) ⟨(by show _ ≤ 724 * c9 + 1; omega), (by show _ ≤ 114110 * c9 + 6; omega)⟩ dX1_house_84 (fun r_ w_ H locs hq hP hD hS => ?_)
    obtain ⟨rfl, rfl⟩ := hq
    have hP : va_P D zCl (((cH k ah aw adr aim ard asc ath awl alo atr sh) ++ ((cR k ard (rd_s_fault r1 (-1 : Int32))) ++ w0)) ++ ((cW k aw w1) ++ (cW k adr (wd_s_texts d1 (wd_texts d1 + 1))))) _ := hP
    have hD : va_D A (((cH k ah aw adr aim ard asc ath awl alo atr sh) ++ ((cR k ard (rd_s_fault r1 (-1 : Int32))) ++ w0)) ++ ((cW k aw w1) ++ (cW k adr (wd_s_texts d1 (wd_texts d1 + 1))))) := hD
    have hP := zjP [(cH k ah aw adr aim ard asc ath awl alo atr sh), (cR k ard (rd_s_fault r1 (-1 : Int32))), w0] [(cW k aw w1), (cW k adr (wd_s_texts d1 (wd_texts d1 + 1)))] hP
    have hD := zjD [(cH k ah aw adr aim ard asc ath awl alo atr sh), (cR k ard (rd_s_fault r1 (-1 : Int32))), w0] [(cW k aw w1), (cW k adr (wd_s_texts d1 (wd_texts d1 + 1)))] hD
    have hP := zbP [(cH k ah aw adr aim ard asc ath awl alo atr sh), (cR k ard (rd_s_fault r1 (-1 : Int32))), w0, (cW k aw w1), (cW k adr (wd_s_texts d1 (wd_texts d1 + 1)))] 5 [0, 3, 4, 1, 2] hP rfl (by decide)
    have hD := zbD [(cH k ah aw adr aim ard asc ath awl alo atr sh), (cR k ard (rd_s_fault r1 (-1 : Int32))), w0, (cW k aw w1), (cW k adr (wd_s_texts d1 (wd_texts d1 + 1)))] 5 [0, 3, 4, 1, 2] hD rfl (by decide)
    have hP : va_P D zCl ((cH k ah aw adr aim ard asc ath awl alo atr sh) ++ ((cW k aw w1) ++ ((cW k adr (wd_s_texts d1 (wd_texts d1 + 1))) ++ ((cR k ard (rd_s_fault r1 (-1 : Int32))) ++ w0)))) _ := hP
    have hD : va_D A ((cH k ah aw adr aim ard asc ath awl alo atr sh) ++ ((cW k aw w1) ++ ((cW k adr (wd_s_texts d1 (wd_texts d1 + 1))) ++ ((cR k ard (rd_s_fault r1 (-1 : Int32))) ++ w0)))) := hD
    refine lv_pop hx hb dX1_house_87 rfl ?_
    refine lv_aload_n hx hb dX1_house_88 rfl (lv_at hl 0 rfl) ?_
    refine va_get (ci := 1) (v := .ref (awl 0)) (C := RX1) (T := TX1) (N := 10) hx hb hts in_X1 hown hK hP 0 rfl rfl 7 (by decide) (hts _ q378) (fun _ h9 => h9) rfl dX1_house_89 ?_
    have hP : va_P D zCl (zcat [(cH k ah aw adr aim ard asc ath awl alo atr sh), (cW k aw w1), (cW k adr (wd_s_texts d1 (wd_texts d1 + 1))), (cR k ard (rd_s_fault r1 (-1 : Int32))), w0]) _ := hP
    have hD : va_D A (zcat [(cH k ah aw adr aim ard asc ath awl alo atr sh), (cW k aw w1), (cW k adr (wd_s_texts d1 (wd_texts d1 + 1))), (cR k ard (rd_s_fault r1 (-1 : Int32))), w0]) := hD
    have hP := zsP [(cH k ah aw adr aim ard asc ath awl alo atr sh), (cW k aw w1), (cW k adr (wd_s_texts d1 (wd_texts d1 + 1))), (cR k ard (rd_s_fault r1 (-1 : Int32))), w0] 5 [0, 1, 2, 3] [4] hP rfl (by decide)
    have hD := zsD [(cH k ah aw adr aim ard asc ath awl alo atr sh), (cW k aw w1), (cW k adr (wd_s_texts d1 (wd_texts d1 + 1))), (cR k ard (rd_s_fault r1 (-1 : Int32))), w0] 5 [0, 1, 2, 3] [4] hD rfl (by decide)
    have hP : va_P D zCl (((cH k ah aw adr aim ard asc ath awl alo atr sh) ++ ((cW k aw w1) ++ ((cW k adr (wd_s_texts d1 (wd_texts d1 + 1))) ++ (cR k ard (rd_s_fault r1 (-1 : Int32)))))) ++ w0) _ := hP
    have hD : va_D A (((cH k ah aw adr aim ard asc ath awl alo atr sh) ++ ((cW k aw w1) ++ ((cW k adr (wd_s_texts d1 (wd_texts d1 + 1))) ++ (cR k ard (rd_s_fault r1 (-1 : Int32)))))) ++ w0) := hD
    refine cClr ((cH k ah aw adr aim ard asc ath awl alo atr sh) ++ ((cW k aw w1) ++ ((cW k adr (wd_s_texts d1 (wd_texts d1 + 1))) ++ (cR k ard (rd_s_fault r1 (-1 : Int32)))))) w0 ⟨hx, hb, hml, hown, hts⟩ hOK hz hS hA hw hP hD (kJ2_clear hts q732 rfl rfl ⟨Nat.le_of_ble_eq_true rfl, Nat.le_of_ble_eq_true rfl⟩) hl.1 (lv_room (Nat.le_of_ble_eq_true rfl)) ⟨(by show _ ≤ 724 * c9 + 1; omega), (by show _ ≤ 114110 * c9 + 6; omega)⟩ dX1_house_92 (fun T H locs hT hP hD hS => ?_)
    have hP : va_P D zCl (((cH k ah aw adr aim ard asc ath awl alo atr sh) ++ ((cW k aw w1) ++ ((cW k adr (wd_s_texts d1 (wd_texts d1 + 1))) ++ (cR k ard (rd_s_fault r1 (-1 : Int32)))))) ++ T) _ := hP
    have hD : va_D A (((cH k ah aw adr aim ard asc ath awl alo atr sh) ++ ((cW k aw w1) ++ ((cW k adr (wd_s_texts d1 (wd_texts d1 + 1))) ++ (cR k ard (rd_s_fault r1 (-1 : Int32)))))) ++ T) := hD
    have hP := zjP [(cH k ah aw adr aim ard asc ath awl alo atr sh), (cW k aw w1), (cW k adr (wd_s_texts d1 (wd_texts d1 + 1))), (cR k ard (rd_s_fault r1 (-1 : Int32)))] [T] hP
    have hD := zjD [(cH k ah aw adr aim ard asc ath awl alo atr sh), (cW k aw w1), (cW k adr (wd_s_texts d1 (wd_texts d1 + 1))), (cR k ard (rd_s_fault r1 (-1 : Int32)))] [T] hD
    have hP : va_P D zCl ((cH k ah aw adr aim ard asc ath awl alo atr sh) ++ ((cW k aw w1) ++ ((cW k adr (wd_s_texts d1 (wd_texts d1 + 1))) ++ ((cR k ard (rd_s_fault r1 (-1 : Int32))) ++ T)))) _ := hP
    have hD : va_D A ((cH k ah aw adr aim ard asc ath awl alo atr sh) ++ ((cW k aw w1) ++ ((cW k adr (wd_s_texts d1 (wd_texts d1 + 1))) ++ ((cR k ard (rd_s_fault r1 (-1 : Int32))) ++ T)))) := hD
    refine lv_aload_n hx hb dX1_house_95 rfl (lv_at hl 0 rfl) ?_
    refine va_get (ci := 1) (v := .ref (aw 0)) (C := RX1) (T := TX1) (N := 10) hx hb hts in_X1 hown hK hP 0 rfl rfl 0 (by decide) (hts _ q370) (fun _ h9 => h9) rfl dX1_house_96 ?_
    refine va_getN (ci := 2) (v := .int (wd_texts w1)) (C := RX2) (T := TX2) (N := 21) hx hb hts in_X2 hown hK hP 1 rfl rfl 0 (by decide) (va_Nw.use rfl (hN _ (zN_of q163 rfl))) (fun _ h9 => h9) rfl dX1_house_99 ?_
    refine W.widen (k := 724 * c9 + 1) (n := 114110 * c9 + 6) (by omega) (by omega) ?_
    exact vx_ret (retW_i hx hb hr hlocks hP hD hS ⟨T, _, _, _, _, hT, rfl, rfl, rfl⟩ dX1_house_102)
  · have hrun := mif_p (not_ne9 c1) hrun
    cases hrun
    exact zthrowH (own := "SaturdayKeep") (cls := "java/lang/UnsupportedOperationException") (names := ["java/lang/RuntimeException", "java/lang/Exception"]) hx hb hlt hown (by decide +kernel) (by decide +kernel) (hts _ q1281) (hts _ q133) (xtX1_UOE hts hN) xgX1_UOE hTh hz hlocks hP hD hS hA (hl.1.trans hml.symm) ⟨_, _, rfl, rfl⟩ dX1_house_55 dX1_house_58 dX1_house_59 dX1_house_62 (by rw [htab]; decide) (Nat.le_of_ble_eq_true rfl) (Nat.le_of_ble_eq_true rfl) (by show _ ≤ 724 * c9 + 1; omega) (by show _ ≤ 114110 * c9 + 6; omega) (by omega) (by omega)
