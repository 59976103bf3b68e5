/-! StringBuilder.toString -/
theorem cRSU {p : Program} {l : Launch} {e : Env} {R : Room} {s : State} {m : MethodId} {args : Array Value} {below : List Frame} {meth : Method} {c : Code} {H : Heap} {locs : List Loc} {cells slots : Nat} {Q : State → Prop} {pc : Nat} {ls : Array Slot} {rest st0 : List Value} {D : va_G} {cl : List vw_C} {tys : List (ClassId × FieldType)} {Z : zZ} {A : Nat → Prop} {ws : va_W} {cc : ByteArray} {y : MethodName} {cy : ByteArray} {mL nL n index : Nat} {ret : Option FieldType} {rm : Room} {own C : String} {b : Addr} {As : List Value} {ci N : Nat} {T0 : u_T} {fs : List Value} {r : Option Value} (S : CallFix p m c cc nL s args lw_all own) (hOK : zOK D cl tys Z) (hz : Z A s s.heap) (hS : va_S A s.heap H locs) (hPc : va_P D cl ws H) (hM : CtR l y cy mL ret rm Z D cl ws (.ref b :: As) r) (cw : va_CS R s args own index y cy mL ret (ws_ y cy mL ret) rm 0 0 n)
    (q0 : Nat) (he : ws[q0]? = some (b, .inr (ci, fs))) (hc : cl[ci]? = some (C, T0, N)) (hn : As.length = n) (hl : ls.size = nL) (hst : st0 = As.reverse ++ .ref b :: rest) (hW : 2 * (F0 m pc ls st0).monitorRoom + (rest.map fun v => v.category).sum ≤ 8) (hf : cells ≤ R.cells ∧ slots ≤ R.slots) (hdg : decode cc pc = .ok (.invokespecial index, 3))
    (kk : W p l e R s m args below meth c H locs cells slots Q (F0 m (pc + 3) ls (r.toList ++ rest))) : W p l e R s m args below meth c H locs cells slots Q (F0 m pc ls st0) :=
  cl_R (va_runSU (Qc := QRr r) (Pc := PcR Z D cl ws (.ref b :: As)) ((hOK.1 _ _ _ hz).1 ci _ hc).2 S hM cw ⟨blindR hOK, va_recv (q := (C, T0, N)) (hOK.1 _ _ _ hz) hPc hc he, readyR hOK hz hS hPc⟩ rfl hn hl hst hW hdg hf) kk
def strC (k : Nat → ClassId) (q v n : Nat) (h : Int32) (z : Bool) (f : Nat → Int32) : va_W := [(q, .inr (17, [.ref v, .int 0, .int h, .int (bz z)])), (v, .inl (k 2, n, .inl f))]
def st0C (q : Nat) : Nat × va_E := (q, .inr (17, [.null, .int 0, .int 0, .int 0]))
theorem nI_s0 (n : Nat) : nI n - nI 0 = nI n := by
  show nI n - 0 = nI n
  exact Int32.sub_zero _
theorem kJ3_getValue {R : Room} {s : State} {args : Array Value} {own : String} {idx mc ms : Nat} {rm : Room} (hts : ∀ w ∈ lw_all, w.before args s = true) (hsel : (Cond.selects RJ4 yJ3_getValue yJ3_getValue).before args s = true) (hl : Cond.methodLink own idx yJ3_getValue ∈ lw_all) (hrc : rm.cells = mc) (hrs : rm.slots = ms) (hR : rm.frames + 1 ≤ R.frames ∧ 8 + (1 + 11) + rm.locals ≤ R.locals) : CallW R s args own RJ4 idx yJ3_getValue cJ3_getValue 1 (some (.array .byte)) (ws_ yJ3_getValue cJ3_getValue 1 (some (.array .byte))) rm mc ms 0 :=
  ⟨callB_of 0 hts (lw_meth q923) rfl hrc hrs (hts _ q117) (hts _ hl) (by decide +kernel) hR, hts _ q920, hsel⟩
set_option maxRecDepth 100000 in
theorem mtJ3_getValue (l : Launch) (D : va_G) (k : Nat → ClassId) (Z : zZ) (hOK : zOK D zCl (zTys k) Z) (q v cap n : Nat) (f : Nat → Int32) : CtR l yJ3_getValue cJ3_getValue 1 (some (.array .byte)) (rLs 0 0 0 0) Z D zCl (sbC k q v cap n f) [.ref q] (some (.ref v)) := by
  refine CtR.of (by decide) (Nat.le_of_ble_eq_true rfl) ?_
  intro p e9 s m args below meth c hE hP hz ls hl
  obtain ⟨hx, hb, hr, hml, hown, hts, hlocks, hname⟩ := hE
  have hown : s.vm.findClass RJ3 = some m.cls := hown
  have hK := hOK.1 _ _ _ hz
  have hN := hOK.2.1 _ _ _ hz
  have hl : lv_has ls 1 [(0, .ref q)] := hl
  refine lv_aload_n hx hb dJ3_getValue_0 rfl (lv_at hl 0 rfl) ?_
  refine va_get (ci := 16) (v := .ref v) (C := RJ4) (T := TJ4) (N := 4) hx hb hts in_J4 hown hK hP 0 rfl rfl 0 (by decide) (hts _ q806) (fun _ h9 => h9) rfl dJ3_getValue_1 ?_
  exact retR_a hx hb hr (Or.inr ⟨_, rfl⟩) hlocks rfl dJ3_getValue_4
set_option maxRecDepth 100000 in
theorem mtJ3_length (l : Launch) (D : va_G) (k : Nat → ClassId) (Z : zZ) (hOK : zOK D zCl (zTys k) Z) (q v cap n : Nat) (f : Nat → Int32) : CtR l yJ3_length cJ3_length 1 (some .int) (rLs 0 0 0 0) Z D zCl (sbC k q v cap n f) [.ref q] (some (.int (nI n))) := by
  refine CtR.of (by decide) (Nat.le_of_ble_eq_true rfl) ?_
  intro p e9 s m args below meth c hE hP hz ls hl
  obtain ⟨hx, hb, hr, hml, hown, hts, hlocks, hname⟩ := hE
  have hown : s.vm.findClass RJ3 = some m.cls := hown
  have hK := hOK.1 _ _ _ hz
  have hN := hOK.2.1 _ _ _ hz
  have hl : lv_has ls 1 [(0, .ref q)] := hl
  refine lv_aload_n hx hb dJ3_length_0 rfl (lv_at hl 0 rfl) ?_
  refine va_get (ci := 16) (v := .int (nI n)) (C := RJ4) (T := TJ4) (N := 4) hx hb hts in_J4 hown hK hP 0 rfl rfl 3 (by decide) (hts _ q809) (fun _ h9 => h9) rfl dJ3_length_1 ?_
  exact retR_i hx hb hr hlocks rfl dJ3_length_4
theorem kJ3_lengthS {R : Room} {s : State} {args : Array Value} {mc ms : Nat} {rm : Room} (hts : ∀ w ∈ lw_all, w.before args s = true) (hrc : rm.cells = mc) (hrs : rm.slots = ms) (hR : rm.frames + 1 ≤ R.frames ∧ 8 + (1 + 11) + rm.locals ≤ R.locals) : va_CS R s args RJ4 343 yJ3_length cJ3_length 1 (some .int) (ws_ yJ3_length cJ3_length 1 (some .int)) rm mc ms 0 :=
  va_cwSU 0 hts (lw_app (lw_in ([.methodLink RJ4 343 yJ3_length, .sameMethod RJ3 RJ3 "length" "()I", .superclass RJ4 RJ3, .instanceMethod yJ3_length, .initialized RJ3] : List Cond) [930, 926, 818, 925, 117] (by decide +kernel) (by decide +kernel)) (lw_meth q931)) rfl hrc hrs (by decide +kernel) hR
set_option maxRecDepth 100000 in
theorem mtJ4_length (l : Launch) (D : va_G) (k : Nat → ClassId) (Z : zZ) (hOK : zOK D zCl (zTys k) Z) (q v cap n : Nat) (f : Nat → Int32) : CtR l yJ4_length cJ4_length 1 (some .int) (rLs 1 0 0 30) Z D zCl (sbC k q v cap n f) [.ref q] (some (.int (nI n))) := by
  refine CtR.of (by decide) (Nat.le_of_ble_eq_true rfl) ?_
  intro p e9 s m args below meth c hE hP hz ls hl
  obtain ⟨hx, hb, hr, hml, hown, hts, hlocks, hname⟩ := hE
  have hown : s.vm.findClass RJ4 = some m.cls := hown
  have hK := hOK.1 _ _ _ hz
  have hN := hOK.2.1 _ _ _ hz
  have hl : lv_has ls 1 [(0, .ref q)] := hl
  refine lv_aload_n hx hb dJ4_length_0 rfl (lv_at hl 0 rfl) ?_
  refine cRSU (As := []) (ci := 16) ⟨hx, hb, hml, hown, hts⟩ hOK hz va_S.rf hP (mtJ3_length l D k Z hOK q v cap n f) (kJ3_lengthS hts rfl rfl ⟨Nat.le_of_ble_eq_true rfl, Nat.le_of_ble_eq_true rfl⟩) 0 rfl rfl rfl hl.1 rfl (lv_room (Nat.le_of_ble_eq_true rfl)) ⟨(Nat.le_of_ble_eq_true rfl), (Nat.le_of_ble_eq_true rfl)⟩ dJ4_length_1 ?_
  exact retR_i hx hb hr hlocks rfl dJ4_length_4
theorem kJ4_lengthO {R : Room} {s : State} {args : Array Value} {mc ms : Nat} {rm : Room} (hts : ∀ w ∈ lw_all, w.before args s = true) (hrc : rm.cells = mc) (hrs : rm.slots = ms) (hR : rm.frames + 1 ≤ R.frames ∧ 8 + (1 + 11) + rm.locals ≤ R.locals) : va_CU R s args RJ5 RJ4 RJ3 549 yJ3_length yJ4_length cJ4_length 1 (some .int) (ws_ yJ4_length cJ4_length 1 (some .int)) rm mc ms 0 :=
  va_cwO 0 hts (lw_app (lw_in ([.methodLink RJ5 549 yJ3_length, .sameMethod RJ3 RJ3 "length" "()I", .instanceMethod yJ3_length, .selects RJ4 yJ3_length yJ4_length, .instanceMethod yJ4_length, .initialized RJ4] : List Cond) [924, 926, 925, 927, 928, 118] (by decide +kernel) (by decide +kernel)) (lw_meth q929)) rfl hrc hrs (h0 := q931) (by decide +kernel) hR
theorem kJ9_checkLength {R : Room} {s : State} {args : Array Value} {own : String} {idx mc ms : Nat} {rm : Room} (hts : ∀ w ∈ lw_all, w.before args s = true) (hl : Cond.methodLink own idx yJ9_checkLength ∈ lw_all) (hrc : rm.cells = mc) (hrs : rm.slots = ms) (hR : rm.frames + 1 ≤ R.frames ∧ 8 + (2 + 11) + rm.locals ≤ R.locals) : CallB R s args own idx yJ9_checkLength cJ9_checkLength 2 none (ws_ yJ9_checkLength cJ9_checkLength 2 none) rm mc ms 2 ∧ (Cond.static yJ9_checkLength).before args s = true :=
  va_cwS 2 hts (lw_S hl q940 q123 q941) rfl hrc hrs (by decide +kernel) hR
set_option maxRecDepth 100000 in
theorem mtJ9_checkLength (l : Launch) (D : va_G) (k : Nat → ClassId) (Z : zZ) (hOK : zOK D zCl (zTys k) Z) (n : Nat) (hn9 : n < 2 ^ 31) : CtR l yJ9_checkLength cJ9_checkLength 2 none (rLs 0 0 0 0) Z D zCl [] [.int (nI 0), .int (nI n)] none := by
  refine CtR.of (by decide) (Nat.le_of_ble_eq_true rfl) ?_
  intro p e9 s m args below meth c hE hP hz ls hl
  obtain ⟨hx, hb, hr, hml, hown, hts, hlocks, hname⟩ := hE
  have hown : s.vm.findClass RJ9 = some m.cls := hown
  have hK := hOK.1 _ _ _ hz
  have hN := hOK.2.1 _ _ _ hz
  have hl : lv_has ls 2 [(0, .int (nI 0)), (1, .int (nI n))] := hl
  refine lv_iload_n hx hb dJ9_checkLength_0 rfl (lv_at hl 1 rfl) ?_
  refine lv_iload_n hx hb dJ9_checkLength_1 rfl (lv_at hl 0 rfl) ?_
  refine lv_icmp_ge (tgt := 37) hx hb dJ9_checkLength_2 (by decide) (fun _ => ?_) (fun c1 => absurd (nI_le (Nat.zero_le n) hn9) c1)
  exact retR_v hx hb hr hlocks rfl dJ9_checkLength_37
theorem kJ9_copyOfRangeByte {R : Room} {s : State} {args : Array Value} {own : String} {idx mc ms : Nat} {rm : Room} (hts : ∀ w ∈ lw_all, w.before args s = true) (hl : Cond.methodLink own idx yJ9_copyOfRangeByte ∈ lw_all) (hrc : rm.cells = mc) (hrs : rm.slots = ms) (hR : rm.frames + 1 ≤ R.frames ∧ 8 + (5 + 11) + rm.locals ≤ R.locals) : CallB R s args own idx yJ9_copyOfRangeByte cJ9_copyOfRangeByte 5 (some (.array .byte)) (ws_ yJ9_copyOfRangeByte cJ9_copyOfRangeByte 5 (some (.array .byte))) rm mc ms 3 ∧ (Cond.static yJ9_copyOfRangeByte).before args s = true :=
  va_cwS 3 hts (lw_S hl q937 q123 q938) rfl hrc hrs (by decide +kernel) hR
set_option maxRecDepth 100000 in
theorem mtJ9_cobr (l : Launch) (D : va_G) (k : Nat → ClassId) (Z : zZ) (hOK : zOK D zCl (zTys k) Z) (v cap n : Nat) (f : Nat → Int32) (hF : sb_Fit f) (hlt : n < cap) (hc9 : cap < 2 ^ 20) : CtW l yJ9_copyOfRangeByte cJ9_copyOfRangeByte 5 (some (.array .byte)) (rLs 1 1 n 60) Z D zCl [(v, .inl (k 2, cap, .inl f))] [.ref v, .int (nI 0), .int (nI n)] (fun r' w' => ∃ v1, r' = some (.ref v1) ∧ w' = ([(v, .inl (k 2, cap, .inl f))] ++ [(v1, .inl (k 2, n, .inl (va_cpy f (fun _ => 0) 0 0 n)))])) 1 n := by
  refine CtW.of (by decide) (Nat.le_of_ble_eq_true rfl) ?_
  intro p e9 s m args below meth c A hE hA hP hD hS hz ls hl
  obtain ⟨hx, hb, hr, hml, hown, hts, hlocks, hname⟩ := hE
  have hown : s.vm.findClass RJ9 = some m.cls := hown
  have hK := hOK.1 _ _ _ hz
  have hN := hOK.2.1 _ _ _ hz
  have hl : lv_has ls 5 [(0, .ref v), (1, .int (nI 0)), (2, .int (nI n))] := hl
  refine lv_iload_n hx hb dJ9_copyOfRangeByte_0 rfl (lv_at hl 1 rfl) ?_
  refine lv_iload_n hx hb dJ9_copyOfRangeByte_1 rfl (lv_at hl 2 rfl) ?_
  refine cRS (ws := []) (As := [.int (nI 0), .int (nI n)]) ⟨hx, hb, hml, hown, hts⟩ hOK hz hS zP0 (mtJ9_checkLength l D k Z hOK n (by omega)) (kJ9_checkLength hts q939 rfl rfl ⟨Nat.le_of_ble_eq_true rfl, Nat.le_of_ble_eq_true rfl⟩) rfl hl.1 rfl (lv_room (Nat.le_of_ble_eq_true rfl)) ⟨(Nat.zero_le _), (Nat.zero_le _)⟩ dJ9_copyOfRangeByte_2 ?_
  refine lv_iload_n hx hb dJ9_copyOfRangeByte_5 rfl (lv_at hl 2 rfl) ?_
  refine lv_iload_n hx hb dJ9_copyOfRangeByte_6 rfl (lv_at hl 1 rfl) ?_
  refine lv_isub hx hb dJ9_copyOfRangeByte_7 ?_
  rw [nI_s0]
  refine lv_istore_n (lv' := [(3, .int (nI n)), (0, .ref v), (1, .int (nI 0)), (2, .int (nI n))]) hx hb dJ9_copyOfRangeByte_8 rfl hl (by decide) rfl (fun ls hl => ?_)
  refine lv_iload_n hx hb dJ9_copyOfRangeByte_9 rfl (lv_at hl 0 rfl) ?_
  refine va_newa (atype := .byte) (ty := .byte) (a0 := (n, .inl (fun _ => 0))) (N' := n) hx hb (hts _ q286) rfl hK hP hD hS hA (fun _ => rfl) (nI_pos (by omega)) (nI_clamp (by omega)) (by show n * 1 ≤ _; omega) (Nat.le_refl _) (by show 0 + n ≤ n; omega) dJ9_copyOfRangeByte_10 (fun v1 cA H hK2 hP hD hS => ?_)
  cases zcAg hK2 2 rfl
  have hP : va_P D zCl ([(v, .inl (k 2, cap, .inl f))] ++ [(v1, .inl (k 2, n, .inl (fun _ => 0)))]) _ := hP
  have hD : va_D A ([(v, .inl (k 2, cap, .inl f))] ++ [(v1, .inl (k 2, n, .inl (fun _ => 0)))]) := hD
  refine lv_astore (lv' := [(4, .ref v1), (3, .int (nI n)), (0, .ref v), (1, .int (nI 0)), (2, .int (nI n))]) hx hb dJ9_copyOfRangeByte_12 hl (by decide) rfl (fun ls hl => ?_)
  refine lv_aload_n hx hb dJ9_copyOfRangeByte_14 rfl (lv_at hl 2 rfl) ?_
  refine lv_iload_n hx hb dJ9_copyOfRangeByte_15 rfl (lv_at hl 3 rfl) ?_
  refine lv_aload hx hb dJ9_copyOfRangeByte_16 (lv_at hl 0 rfl) ?_
  refine lv_iconst (v := nI 0) hx hb dJ9_copyOfRangeByte_18 (by decide) ?_
  refine lv_aload_n hx hb dJ9_copyOfRangeByte_19 rfl (lv_at hl 2 rfl) ?_
  refine va_alen (v := nI cap) hx hb hK hP 0 2 rfl rfl rfl dJ9_copyOfRangeByte_20 ?_
  refine lv_iload_n hx hb dJ9_copyOfRangeByte_21 rfl (lv_at hl 3 rfl) ?_
  refine lv_isub hx hb dJ9_copyOfRangeByte_22 ?_
  rw [nI_s0]
  refine lv_iload_n hx hb dJ9_copyOfRangeByte_23 rfl (lv_at hl 1 rfl) ?_
  refine va_mmin hx hb (hml.trans hl.1.symm) hown (hts _ q853) (hts _ q550) (hts _ q122) (hts _ q551) (Nat.le_of_ble_eq_true rfl) (Nat.le_of_ble_eq_true rfl) (Nat.le_refl _) (by show 0 + n ≤ n; omega) dJ9_copyOfRangeByte_24 ?_
  refine W.eq (g2 := F0 m 27 ls [.int (nI n), .int (nI 0), .ref v1, .int (nI 0), .ref v]) (by show F0 m 27 ls [.int (if nI n < nI cap then nI n else nI cap), .int (nI 0), .ref v1, .int (nI 0), .ref v] = _; rw [if_pos (nI_lt (by omega) (by omega))]) ?_
  have q0 : (nI 0).toNatClampNeg = 0 := by decide
  have q1 : (nI n).toNatClampNeg = n := nI_clamp (by omega)
  refine va_copyi (ty := .byte) hx hb (hml.trans hl.1.symm) hown (hts _ q854) (hts _ q443) (hts _ q442) (hts _ q116) hK hP hD hS 0 1 2 2 rfl rfl rfl rfl rfl (by decide) (by decide) (nI_pos (by omega)) (by rw [q0, q1]; omega) (by rw [q0, q1]; omega) (fun i _ => hF _) (Nat.le_of_ble_eq_true rfl) (Nat.le_of_ble_eq_true rfl) dJ9_copyOfRangeByte_27 (fun H locs hP hD hS => ?_)
  rw [q0, q1] at hP hD
  have hP : va_P D zCl ([(v, .inl (k 2, cap, .inl f))] ++ [(v1, .inl (k 2, n, .inl (va_cpy f (fun _ => 0) 0 0 n)))]) _ := hP
  have hD : va_D A ([(v, .inl (k 2, cap, .inl f))] ++ [(v1, .inl (k 2, n, .inl (va_cpy f (fun _ => 0) 0 0 n)))]) := hD
  refine lv_aload hx hb dJ9_copyOfRangeByte_30 (lv_at hl 0 rfl) ?_
  refine W.widen (k := 1) (n := n) (Nat.le_refl _) (by omega) ?_
  exact retW_a hx hb hr (Or.inr ⟨_, rfl⟩) hlocks hP hD hS ⟨v1, rfl, rfl⟩ dJ9_copyOfRangeByte_32
theorem kJ9_copyOfRange {R : Room} {s : State} {args : Array Value} {own : String} {idx mc ms : Nat} {rm : Room} (hts : ∀ w ∈ lw_all, w.before args s = true) (hl : Cond.methodLink own idx yJ9_copyOfRange ∈ lw_all) (hrc : rm.cells = mc) (hrs : rm.slots = ms) (hR : rm.frames + 1 ≤ R.frames ∧ 8 + (3 + 11) + rm.locals ≤ R.locals) : CallB R s args own idx yJ9_copyOfRange cJ9_copyOfRange 3 (some (.array .byte)) (ws_ yJ9_copyOfRange cJ9_copyOfRange 3 (some (.array .byte))) rm mc ms 3 ∧ (Cond.static yJ9_copyOfRange).before args s = true :=
  va_cwS 3 hts (lw_S hl q934 q123 q935) rfl hrc hrs (by decide +kernel) hR
set_option maxRecDepth 100000 in
theorem mtJ9_corN (l : Launch) (D : va_G) (k : Nat → ClassId) (Z : zZ) (hOK : zOK D zCl (zTys k) Z) (v cap n : Nat) (f : Nat → Int32) (hF : sb_Fit f) (hlt : n < cap) (hc9 : cap < 2 ^ 20) : CtW l yJ9_copyOfRange cJ9_copyOfRange 3 (some (.array .byte)) (rLs 2 1 n 100) Z D zCl [(v, .inl (k 2, cap, .inl f))] [.ref v, .int (nI 0), .int (nI n)] (fun r' w' => ∃ (v1 : Nat) (f1 : Nat → Int32), r' = some (.ref v1) ∧ sb_Fit f1 ∧ (∀ j, j < n → f1 j = f j) ∧ w' = ([(v, .inl (k 2, cap, .inl f))] ++ [(v1, .inl (k 2, n, .inl f1))])) 1 n := by
  refine CtW.of (by decide) (Nat.le_of_ble_eq_true rfl) ?_
  intro p e9 s m args below meth c A hE hA hP hD hS hz ls hl
  obtain ⟨hx, hb, hr, hml, hown, hts, hlocks, hname⟩ := hE
  have hown : s.vm.findClass RJ9 = some m.cls := hown
  have hK := hOK.1 _ _ _ hz
  have hN := hOK.2.1 _ _ _ hz
  have hl : lv_has ls 3 [(0, .ref v), (1, .int (nI 0)), (2, .int (nI n))] := hl
  refine lv_iload_n hx hb dJ9_copyOfRange_0 rfl (lv_at hl 1 rfl) ?_
  refine lv_if_ne (tgt := 10) hx hb dJ9_copyOfRange_1 (by decide) (fun c1 => absurd rfl c1) (fun _ => ?_)
  refine lv_iload_n hx hb dJ9_copyOfRange_4 rfl (lv_at hl 2 rfl) ?_
  refine lv_aload_n hx hb dJ9_copyOfRange_5 rfl (lv_at hl 0 rfl) ?_
  refine va_alen (v := nI cap) hx hb hK hP 0 2 rfl rfl rfl dJ9_copyOfRange_6 ?_
  refine lv_icmp_eq (tgt := 17) hx hb dJ9_copyOfRange_7 (by decide) (fun c1 => absurd c1 (nI_nei (by omega) (by omega) (by omega))) (fun _ => ?_)
  refine lv_aload_n hx hb dJ9_copyOfRange_10 rfl (lv_at hl 0 rfl) ?_
  refine lv_iload_n hx hb dJ9_copyOfRange_11 rfl (lv_at hl 1 rfl) ?_
  refine lv_iload_n hx hb dJ9_copyOfRange_12 rfl (lv_at hl 2 rfl) ?_
  have hP : va_P D zCl ([] ++ ([(v, .inl (k 2, cap, .inl f))] ++ [])) _ := hP
  have hD : va_D A ([] ++ ([(v, .inl (k 2, cap, .inl f))] ++ [])) := hD
  refine cWS [] [(v, .inl (k 2, cap, .inl f))] [] (As := [.ref v, .int (nI 0), .int (nI n)]) ⟨hx, hb, hml, hown, hts⟩ hOK hz hS hA hP hD (mtJ9_cobr l D k Z hOK v cap n f hF hlt hc9) (kJ9_copyOfRangeByte hts q936 rfl rfl ⟨Nat.le_of_ble_eq_true rfl, Nat.le_of_ble_eq_true rfl⟩) rfl hl.1 rfl (lv_room (Nat.le_of_ble_eq_true rfl)) ⟨(Nat.le_of_ble_eq_true rfl), (by show 0 + n ≤ n; omega)⟩ dJ9_copyOfRange_13 (fun r_ w_ H locs hq hP hD hS => ?_)
  obtain ⟨v1, rfl, rfl⟩ := hq
  have hP : va_P D zCl ([(v, .inl (k 2, cap, .inl f))] ++ [(v1, .inl (k 2, n, .inl (va_cpy f (fun _ => 0) 0 0 n)))]) _ := hP
  have hD : va_D A ([(v, .inl (k 2, cap, .inl f))] ++ [(v1, .inl (k 2, n, .inl (va_cpy f (fun _ => 0) 0 0 n)))]) := hD
  refine W.widen (k := 1) (n := n) (Nat.le_refl _) (by omega) ?_
  exact retW_a hx hb hr (Or.inr ⟨_, rfl⟩) hlocks hP hD hS ⟨v1, _, rfl, sb_fitC hF sb_fit0, (fun j hj => sb_cpy0 hj), rfl⟩ dJ9_copyOfRange_16
set_option maxRecDepth 100000 in
theorem mtJ9_corC (l : Launch) (D : va_G) (k : Nat → ClassId) (Z : zZ) (hOK : zOK D zCl (zTys k) Z) (v n : Nat) (f : Nat → Int32) (hF : sb_Fit f) (hc9 : n < 2 ^ 20) : CtW l yJ9_copyOfRange cJ9_copyOfRange 3 (some (.array .byte)) (rLs 2 1 n 100) Z D zCl [(v, .inl (k 2, n, .inl f))] [.ref v, .int (nI 0), .int (nI n)] (fun r' w' => ∃ (v1 : Nat) (f1 : Nat → Int32), r' = some (.ref v1) ∧ sb_Fit f1 ∧ (∀ j, j < n → f1 j = f j) ∧ w' = ([(v, .inl (k 2, n, .inl f))] ++ [(v1, .inl (k 2, n, .inl f1))])) 1 n := by
  refine CtW.of (by decide) (Nat.le_of_ble_eq_true rfl) ?_
  intro p e9 s m args below meth c A hE hA hP hD hS hz ls hl
  obtain ⟨hx, hb, hr, hml, hown, hts, hlocks, hname⟩ := hE
  have hown : s.vm.findClass RJ9 = some m.cls := hown
  have hK := hOK.1 _ _ _ hz
  have hN := hOK.2.1 _ _ _ hz
  have hl : lv_has ls 3 [(0, .ref v), (1, .int (nI 0)), (2, .int (nI n))] := hl
  refine lv_iload_n hx hb dJ9_copyOfRange_0 rfl (lv_at hl 1 rfl) ?_
  refine lv_if_ne (tgt := 10) hx hb dJ9_copyOfRange_1 (by decide) (fun c1 => absurd rfl c1) (fun _ => ?_)
  refine lv_iload_n hx hb dJ9_copyOfRange_4 rfl (lv_at hl 2 rfl) ?_
  refine lv_aload_n hx hb dJ9_copyOfRange_5 rfl (lv_at hl 0 rfl) ?_
  refine va_alen (v := nI n) hx hb hK hP 0 2 rfl rfl rfl dJ9_copyOfRange_6 ?_
  refine lv_icmp_eq (tgt := 17) hx hb dJ9_copyOfRange_7 (by decide) (fun _ => ?_) (fun c1 => absurd rfl c1)
  have hnm : s.vm.findClass "[B" = some (k 2) := (hK.2 2 _ rfl).2
  refine lv_aload_n hx hb dJ9_copyOfRange_17 rfl (lv_at hl 0 rfl) ?_
  refine va_clone (x := (n, .inl f)) hx hb (hml.trans hl.1.symm) hown (hts _ q846) (hts _ q847) (hts _ q848) (hts _ q849) (hts _ q850) (hN _ (zN_of q851 rfl)) hK hP hD hS hA 0 2 rfl rfl hnm (fun i v9 h9 => va_fit (fun j _ => hF j) i v9 h9) (Nat.le_of_ble_eq_true rfl) (Nat.le_of_ble_eq_true rfl) (Nat.le_of_ble_eq_true rfl) (by show 0 + n ≤ n; omega) dJ9_copyOfRange_18 (fun v1 H hK2 hP hD hS => ?_)
  refine va_castA hx hb hown (hts _ q852) hP 1 rfl hnm dJ9_copyOfRange_21 ?_
  refine W.widen (k := 1) (n := n) (Nat.le_refl _) (by show 0 + n ≤ n; omega) ?_
  exact retW_a hx hb hr (Or.inr ⟨_, rfl⟩) hlocks hP hD hS ⟨v1, f, rfl, hF, (fun j hj => rfl), rfl⟩ dJ9_copyOfRange_24
theorem mtJ9_copyOfRange (l : Launch) (D : va_G) (k : Nat → ClassId) (Z : zZ) (hOK : zOK D zCl (zTys k) Z) (v cap n : Nat) (f : Nat → Int32) (hF : sb_Fit f) (hle : n ≤ cap) (hc9 : cap < 2 ^ 20) : CtW l yJ9_copyOfRange cJ9_copyOfRange 3 (some (.array .byte)) (rLs 2 1 n 100) Z D zCl [(v, .inl (k 2, cap, .inl f))] [.ref v, .int (nI 0), .int (nI n)] (fun r' w' => ∃ (v1 : Nat) (f1 : Nat → Int32), r' = some (.ref v1) ∧ sb_Fit f1 ∧ (∀ j, j < n → f1 j = f j) ∧ w' = ([(v, .inl (k 2, cap, .inl f))] ++ [(v1, .inl (k 2, n, .inl f1))])) 1 n := by
  rcases Nat.lt_or_ge n cap with h | h
  · exact mtJ9_corN l D k Z hOK v cap n f hF h hc9
  · obtain rfl : n = cap := by omega
    exact mtJ9_corC l D k Z hOK v n f hF hc9
def rJ5i (n : Nat) : Room := rLs 3 1 n 140
theorem kJ5_init_2 {R : Room} {s : State} {args : Array Value} {own : String} {idx mc ms : Nat} {rm : Room} (hts : ∀ w ∈ lw_all, w.before args s = true) (hl : Cond.methodLink own idx yJ5_init_2 ∈ lw_all) (hrc : rm.cells = mc) (hrs : rm.slots = ms) (hR : rm.frames + 1 ≤ R.frames ∧ 8 + (5 + 11) + rm.locals ≤ R.locals) : CallB R s args own idx yJ5_init_2 cJ5_init_2 5 none (ws_ yJ5_init_2 cJ5_init_2 5 none) rm mc ms 2 ∧ yJ5_init_2.name = "<init>" ∧ (Cond.instanceMethod yJ5_init_2).before args s = true :=
  cwI 2 hts (lw_meth q917) rfl hrc hrs (hts _ q119) (hts _ hl) (hts _ q916) rfl (by decide +kernel) hR
set_option maxRecDepth 100000 in
theorem mtJ5_init_2 (l : Launch) (D : va_G) (k : Nat → ClassId) (Z : zZ) (hOK : zOK D zCl (zTys k) Z) (hCs : zCs Z) (q b v cap n : Nat) (f : Nat → Int32) (hF : sb_Fit f) (hle : n ≤ cap) (hc9 : cap < 2 ^ 20) : CtW l yJ5_init_2 cJ5_init_2 5 none (rJ5i n) Z D zCl ([st0C q] ++ (sbC k b v cap n f)) [.ref q, .ref b, .null] (fun r' w' => ∃ (v1 : Nat) (f1 : Nat → Int32), r' = none ∧ sb_Fit f1 ∧ (∀ j, j < n → f1 j = f j) ∧ w' = (strC k q v1 n 0 false f1 ++ sbC k b v cap n f)) 1 n := by
  refine CtW.of (by decide) (Nat.le_of_ble_eq_true rfl) ?_
  intro p e9 s m args below meth c A hE hA hP hD hS hz ls hl
  obtain ⟨hx, hb, hr, hml, hown, hts, hlocks, hname⟩ := hE
  have hown : s.vm.findClass RJ5 = some m.cls := hown
  have hK := hOK.1 _ _ _ hz
  have hN := hOK.2.1 _ _ _ hz
  have hl : lv_has ls 5 [(0, .ref q), (1, .ref b), (2, .null)] := hl
  refine lv_aload_n hx hb dJ5_init_2_0 rfl (lv_at hl 0 rfl) ?_
  refine W.objInit hx hb hown (hts _ q918) (hts _ q154) (hts _ q155) rfl (by rw [hml]; exact hl.1) rfl dJ5_init_2_1 (Nat.le_of_ble_eq_true rfl) (Nat.le_of_ble_eq_true rfl) ?_
  refine W.eq (g2 := F0 m 4 ls []) rfl ?_
  refine lv_aload_n hx hb dJ5_init_2_4 rfl (lv_at hl 1 rfl) ?_
  refine cRV (As := []) (ci := 16) ⟨hx, hb, hml, hown, hts⟩ hOK hz hS (hP.sub (ws' := sbC k b v cap n f) [1, 2] rfl) (mtJ3_getValue l D k Z hOK b v cap n f) (kJ3_getValue hts (hts _ q922) q919 rfl rfl ⟨Nat.le_of_ble_eq_true rfl, Nat.le_of_ble_eq_true rfl⟩) 0 rfl rfl rfl hl.1 rfl (lv_room (Nat.le_of_ble_eq_true rfl)) ⟨Nat.zero_le _, Nat.zero_le _⟩ dJ5_init_2_5 ?_
  refine lv_astore_n (lv' := [(3, .ref v), (0, .ref q), (1, .ref b), (2, .null)]) hx hb dJ5_init_2_8 rfl hl (by decide) rfl (fun ls hl => ?_)
  refine lv_aload_n hx hb dJ5_init_2_9 rfl (lv_at hl 2 rfl) ?_
  refine cRUg (C := RJ4) (As := []) ⟨hx, hb, hml, hown, hts⟩ hOK hz hS (hP.sub (ws' := sbC k b v cap n f) [1, 2] rfl) (mtJ4_length l D k Z hOK b v cap n f) (kJ4_lengthO hts rfl rfl ⟨Nat.le_of_ble_eq_true rfl, Nat.le_of_ble_eq_true rfl⟩) (va_recv (q := zCl[16]) hK hP rfl (show _ = _ from rfl : ([st0C q] ++ (sbC k b v cap n f))[1]? = some (b, .inr (16, _)))) rfl hl.1 rfl (lv_room (Nat.le_of_ble_eq_true rfl)) ⟨Nat.zero_le _, Nat.zero_le _⟩ dJ5_init_2_10 ?_
  refine lv_istore (lv' := [(4, .int (nI n)), (3, .ref v), (0, .ref q), (1, .ref b), (2, .null)]) hx hb dJ5_init_2_13 hl (by decide) rfl (fun ls hl => ?_)
  refine lv_aload_n hx hb dJ5_init_2_15 rfl (lv_at hl 3 rfl) ?_
  refine cRV (As := []) (ci := 16) ⟨hx, hb, hml, hown, hts⟩ hOK hz hS (hP.sub (ws' := sbC k b v cap n f) [1, 2] rfl) (mtJ3_isLatin1 l D k Z hOK hCs b v cap n f) (kJ3_isLatin1 hts (hts _ q858) q932 rfl rfl ⟨Nat.le_of_ble_eq_true rfl, Nat.le_of_ble_eq_true rfl⟩) 0 rfl rfl rfl hl.1 rfl (lv_room (Nat.le_of_ble_eq_true rfl)) ⟨Nat.zero_le _, Nat.zero_le _⟩ dJ5_init_2_16 ?_
  refine lv_if_eq (tgt := 41) hx hb dJ5_init_2_19 (by decide) (fun c1 => absurd c1 (by decide)) (fun _ => ?_)
  refine lv_aload_n hx hb dJ5_init_2_22 rfl (lv_at hl 2 rfl) ?_
  refine lv_iconst (v := (0 : Int32)) hx hb dJ5_init_2_23 (by decide) ?_
  refine va_putF (ci := 17) (v := .int (0 : Int32)) (ty := tyJ5 1) (C := RJ5) (T := TJ5) (N := 4) hx hb hts in_J5 tyJ5 tyJ5_ok nmJ5 hown hK hP hD hS 0 rfl rfl 1 (by decide) (hts _ q1101) (fun _ h9 => h9) rfl hname rfl (tyJ5_ok 1 (by decide)) rfl rfl (Nat.le_of_ble_eq_true rfl) dJ5_init_2_24 (fun H locs hP hD hS => ?_)
  have hP : va_P D zCl [(q, .inr (17, [.null, .int 0, .int 0, .int 0])), (b, .inr (16, [.ref v, .int 0, .int (bz false), .int (nI n)])), (v, .inl (k 2, cap, .inl f))] _ := hP
  have hD : va_D A [(q, .inr (17, [.null, .int 0, .int 0, .int 0])), (b, .inr (16, [.ref v, .int 0, .int (bz false), .int (nI n)])), (v, .inl (k 2, cap, .inl f))] := hD
  refine lv_aload_n hx hb dJ5_init_2_27 rfl (lv_at hl 2 rfl) ?_
  refine lv_aload_n hx hb dJ5_init_2_28 rfl (lv_at hl 1 rfl) ?_
  refine lv_iconst (v := nI 0) hx hb dJ5_init_2_29 (by decide) ?_
  refine lv_iload hx hb dJ5_init_2_30 (lv_at hl 0 rfl) ?_
  have hP : va_P D zCl ([(q, .inr (17, [.null, .int 0, .int 0, .int 0])), (b, .inr (16, [.ref v, .int 0, .int (bz false), .int (nI n)]))] ++ ([(v, .inl (k 2, cap, .inl f))] ++ [])) _ := hP
  have hD : va_D A ([(q, .inr (17, [.null, .int 0, .int 0, .int 0])), (b, .inr (16, [.ref v, .int 0, .int (bz false), .int (nI n)]))] ++ ([(v, .inl (k 2, cap, .inl f))] ++ [])) := hD
  refine cWS [(q, .inr (17, [.null, .int 0, .int 0, .int 0])), (b, .inr (16, [.ref v, .int 0, .int (bz false), .int (nI n)]))] [(v, .inl (k 2, cap, .inl f))] [] (As := [.ref v, .int (nI 0), .int (nI n)]) ⟨hx, hb, hml, hown, hts⟩ hOK hz hS hA hP hD (mtJ9_copyOfRange l D k Z hOK v cap n f hF hle hc9) (kJ9_copyOfRange hts q933 rfl rfl ⟨Nat.le_of_ble_eq_true rfl, Nat.le_of_ble_eq_true rfl⟩) rfl hl.1 rfl (lv_room (Nat.le_of_ble_eq_true rfl)) ⟨(Nat.le_of_ble_eq_true rfl), (by show 0 + n ≤ n; omega)⟩ dJ5_init_2_32 (fun r_ w_ H locs hq hP hD hS => ?_)
  obtain ⟨v1, f1, rfl, hF1, hf1, rfl⟩ := hq
  have hP : va_P D zCl [(q, .inr (17, [.null, .int 0, .int 0, .int 0])), (b, .inr (16, [.ref v, .int 0, .int (bz false), .int (nI n)])), (v, .inl (k 2, cap, .inl f)), (v1, .inl (k 2, n, .inl f1))] _ := hP
  have hD : va_D A [(q, .inr (17, [.null, .int 0, .int 0, .int 0])), (b, .inr (16, [.ref v, .int 0, .int (bz false), .int (nI n)])), (v, .inl (k 2, cap, .inl f)), (v1, .inl (k 2, n, .inl f1))] := hD
  refine va_putF (ci := 17) (v := .ref v1) (ty := tyJ5 0) (C := RJ5) (T := TJ5) (N := 4) hx hb hts in_J5 tyJ5 tyJ5_ok nmJ5 hown hK hP hD hS 0 rfl rfl 0 (by decide) (hts _ q1100) (fun _ h9 => h9) rfl hname rfl (tyJ5_ok 0 (by decide)) rfl rfl (Nat.le_of_ble_eq_true rfl) dJ5_init_2_35 (fun H locs hP hD hS => ?_)
  have hP : va_P D zCl [(q, .inr (17, [.ref v1, .int 0, .int 0, .int 0])), (b, .inr (16, [.ref v, .int 0, .int (bz false), .int (nI n)])), (v, .inl (k 2, cap, .inl f)), (v1, .inl (k 2, n, .inl f1))] _ := hP
  have hD : va_D A [(q, .inr (17, [.ref v1, .int 0, .int 0, .int 0])), (b, .inr (16, [.ref v, .int 0, .int (bz false), .int (nI n)])), (v, .inl (k 2, cap, .inl f)), (v1, .inl (k 2, n, .inl f1))] := hD
  refine lv_goto (tgt := 97) hx hb dJ5_init_2_38 (by decide) ?_
  have hP := hP.sub (ws' := (strC k q v1 n 0 false f1 ++ sbC k b v cap n f)) [0, 3, 1, 2] rfl
  have hD := hD.sub (ws' := (strC k q v1 n 0 false f1 ++ sbC k b v cap n f)) [0, 3, 1, 2] (by decide) rfl
  refine W.widen (k := 1) (n := n) (Nat.le_of_ble_eq_true rfl) (by omega) ?_
  exact retW_v hx hb hr hlocks hP hD hS ⟨v1, f1, rfl, hF1, hf1, rfl⟩ dJ5_init_2_97
theorem kJ5_init {R : Room} {s : State} {args : Array Value} {own : String} {idx mc ms : Nat} {rm : Room} (hts : ∀ w ∈ lw_all, w.before args s = true) (hl : Cond.methodLink own idx yJ5_init ∈ lw_all) (hrc : rm.cells = mc) (hrs : rm.slots = ms) (hR : rm.frames + 1 ≤ R.frames ∧ 8 + (2 + 11) + rm.locals ≤ R.locals) : CallB R s args own idx yJ5_init cJ5_init 2 none (ws_ yJ5_init cJ5_init 2 none) rm mc ms 1 ∧ yJ5_init.name = "<init>" ∧ (Cond.instanceMethod yJ5_init).before args s = true :=
  cwI 1 hts (lw_meth q914) rfl hrc hrs (hts _ q119) (hts _ hl) (hts _ q913) rfl (by decide +kernel) hR
set_option maxRecDepth 100000 in
theorem mtJ5_init (l : Launch) (D : va_G) (k : Nat → ClassId) (Z : zZ) (hOK : zOK D zCl (zTys k) Z) (hCs : zCs Z) (q b v cap n : Nat) (f : Nat → Int32) (hF : sb_Fit f) (hle : n ≤ cap) (hc9 : cap < 2 ^ 20) : CtW l yJ5_init cJ5_init 2 none (rLs 4 1 n 180) Z D zCl ([st0C q] ++ (sbC k b v cap n f)) [.ref q, .ref b] (fun r' w' => ∃ (v1 : Nat) (f1 : Nat → Int32), r' = none ∧ sb_Fit f1 ∧ (∀ j, j < n → f1 j = f j) ∧ w' = (strC k q v1 n 0 false f1 ++ sbC k b v cap n f)) 1 n := by
  refine CtW.of (by decide) (Nat.le_of_ble_eq_true rfl) ?_
  intro p e9 s m args below meth c A hE hA hP hD hS hz ls hl
  obtain ⟨hx, hb, hr, hml, hown, hts, hlocks, hname⟩ := hE
  have hown : s.vm.findClass RJ5 = some m.cls := hown
  have hK := hOK.1 _ _ _ hz
  have hN := hOK.2.1 _ _ _ hz
  have hl : lv_has ls 2 [(0, .ref q), (1, .ref b)] := hl
  refine lv_aload_n hx hb dJ5_init_0 rfl (lv_at hl 0 rfl) ?_
  refine lv_aload_n hx hb dJ5_init_1 rfl (lv_at hl 1 rfl) ?_
  refine lv_null hx hb dJ5_init_2 ?_
  have hP : va_P D zCl ([] ++ (([st0C q] ++ (sbC k b v cap n f)) ++ [])) _ := hP
  have hD : va_D A ([] ++ (([st0C q] ++ (sbC k b v cap n f)) ++ [])) := hD
  refine cWI [] ([st0C q] ++ (sbC k b v cap n f)) [] (As := [.ref b, .null]) ⟨hx, hb, hml, hown, hts⟩ hOK hz hS hA hP hD (mtJ5_init_2 l D k Z hOK hCs q b v cap n f hF hle hc9) (kJ5_init_2 hts q915 rfl rfl ⟨Nat.le_of_ble_eq_true rfl, Nat.le_of_ble_eq_true rfl⟩) rfl hl.1 rfl (lv_room (Nat.le_of_ble_eq_true rfl)) ⟨(Nat.le_of_ble_eq_true rfl), (by show 0 + n ≤ n; omega)⟩ dJ5_init_3 (fun r_ w_ H locs hq hP hD hS => ?_)
  obtain ⟨v1, f1, rfl, hF1, hf1, rfl⟩ := hq
  have hP : va_P D zCl (strC k q v1 n 0 false f1 ++ sbC k b v cap n f) _ := hP
  have hD : va_D A (strC k q v1 n 0 false f1 ++ sbC k b v cap n f) := hD
  refine W.widen (k := 1) (n := n) (Nat.le_of_ble_eq_true rfl) (by omega) ?_
  exact retW_v hx hb hr hlocks hP hD hS ⟨v1, f1, rfl, hF1, hf1, rfl⟩ dJ5_init_6
theorem kJ4_toString {R : Room} {s : State} {args : Array Value} {own : String} {idx mc ms : Nat} {rm : Room} (hts : ∀ w ∈ lw_all, w.before args s = true) (hl : Cond.methodLink own idx yJ4_toString ∈ lw_all) (hrc : rm.cells = mc) (hrs : rm.slots = ms) (hR : rm.frames + 1 ≤ R.frames ∧ 8 + (1 + 11) + rm.locals ≤ R.locals) : CallW R s args own RJ4 idx yJ4_toString cJ4_toString 1 (some (.object "java/lang/String")) (ws_ yJ4_toString cJ4_toString 1 (some (.object "java/lang/String"))) rm mc ms 0 :=
  cwV 0 hts (lw_V hl q907 q908 q118 q909) rfl hrc hrs (by decide +kernel) hR
set_option maxRecDepth 100000 in
theorem mtJ4_toString (l : Launch) (D : va_G) (k : Nat → ClassId) (Z : zZ) (hOK : zOK D zCl (zTys k) Z) (hCs : zCs Z) (b v cap n : Nat) (f : Nat → Int32) (hF : sb_Fit f) (hle : n ≤ cap) (hc9 : cap < 2 ^ 20) : CtW l yJ4_toString cJ4_toString 1 (some (.object "java/lang/String")) (rLs 5 2 (4 + n) 220) Z D zCl (sbC k b v cap n f) [.ref b] (fun r' w' => ∃ (q v1 : Nat) (f1 : Nat → Int32), r' = some (.ref q) ∧ sb_Fit f1 ∧ (∀ j, j < n → f1 j = f j) ∧ w' = (strC k q v1 n 0 false f1 ++ sbC k b v cap n f)) 2 (4 + n) := by
  refine CtW.of (by decide) (Nat.le_of_ble_eq_true rfl) ?_
  intro p e9 s m args below meth c A hE hA hP hD hS hz ls hl
  obtain ⟨hx, hb, hr, hml, hown, hts, hlocks, hname⟩ := hE
  have hown : s.vm.findClass RJ4 = some m.cls := hown
  have hK := hOK.1 _ _ _ hz
  have hN := hOK.2.1 _ _ _ hz
  have hl : lv_has ls 1 [(0, .ref b)] := hl
  refine va_new (ci := 17) (fs := [.null, .int 0, .int 0, .int 0]) (C := RJ5) (T := TJ5) (N := 4) hx hb hts in_J5 tyJ5 tyJ5_ok hown (hts _ q910) (hts _ q911) (hts _ q119) hK hP hD hS hA rfl (zdef 4 tyJ5) (by show 0 + 1 ≤ 2; omega) (by show 0 + 4 ≤ 4 + n; omega) dJ4_toString_0 (fun q H hP hD hS => ?_)
  refine lv_dup hx hb dJ4_toString_3 rfl ?_
  refine lv_aload_n hx hb dJ4_toString_4 rfl (lv_at hl 0 rfl) ?_
  have hP := hP.sub (ws' := ([st0C q] ++ (sbC k b v cap n f))) [2, 0, 1] rfl
  have hD := hD.sub (ws' := ([st0C q] ++ (sbC k b v cap n f))) [2, 0, 1] (by decide) rfl
  have hP : va_P D zCl ([] ++ (([st0C q] ++ (sbC k b v cap n f)) ++ [])) _ := hP
  have hD : va_D A ([] ++ (([st0C q] ++ (sbC k b v cap n f)) ++ [])) := hD
  refine cWI [] ([st0C q] ++ (sbC k b v cap n f)) [] (As := [.ref b]) ⟨hx, hb, hml, hown, hts⟩ hOK hz hS hA hP hD (mtJ5_init l D k Z hOK hCs q b v cap n f hF hle hc9) (kJ5_init hts q912 rfl rfl ⟨Nat.le_of_ble_eq_true rfl, Nat.le_of_ble_eq_true rfl⟩) rfl hl.1 rfl (lv_room (Nat.le_of_ble_eq_true rfl)) ⟨(by show 0 + 1 + 1 ≤ 2; omega), (by show 0 + 4 + n ≤ 4 + n; omega)⟩ dJ4_toString_5 (fun r_ w_ H locs hq hP hD hS => ?_)
  obtain ⟨v1, f1, rfl, hF1, hf1, rfl⟩ := hq
  have hP : va_P D zCl (strC k q v1 n 0 false f1 ++ sbC k b v cap n f) _ := hP
  have hD : va_D A (strC k q v1 n 0 false f1 ++ sbC k b v cap n f) := hD
  refine W.widen (k := 2) (n := 4 + n) (Nat.le_of_ble_eq_true rfl) (by omega) ?_
  exact retW_a hx hb hr (Or.inl ⟨_, rfl⟩) hlocks hP hD hS ⟨q, v1, f1, rfl, hF1, hf1, rfl⟩ dJ4_toString_8
