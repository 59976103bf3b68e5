/-! StringBuilder, of Latin-1 letters -/
def zPv (Z : zZ) : Prop := ∀ A U H, Z A U H → ∀ a : Array Value, (Cond.selects RJ4 yJ3_ensureCapacityInternal yJ3_ensureCapacityInternal).before a U = true ∧ (Cond.selects RJ4 yJ3_newCapacity yJ3_newCapacity).before a U = true
def sbC (k : Nat → ClassId) (q v cap n : Nat) (f : Nat → Int32) : va_W := [(q, .inr (16, [.ref v, .int 0, .int (bz false), .int (nI n)])), (v, .inl (k 2, cap, .inl f))]
def sb0 (q : Nat) : va_W := [(q, .inr (16, [.null, .int 0, .int 0, .int 0]))]
def sbGrow (n cap : Nat) : Nat := if n < cap then cap else 2 * cap + 2
def rJ3_init : Room := { frames := 1, cells := 1, slots := 16, locals := 30 }
theorem kJ3_init {R : Room} {s : State} {args : Array Value} {own : String} {idx mc ms : Nat} {rm : Room} (hts : ∀ w ∈ lw_all, w.before args s = true) (hl : Cond.methodLink own idx yJ3_init ∈ lw_all) (hrc : rm.cells = mc) (hrs : rm.slots = ms) (hR : rm.frames + 1 ≤ R.frames ∧ 8 + (2 + 11) + rm.locals ≤ R.locals) : CallB R s args own idx yJ3_init cJ3_init 2 none (ws_ yJ3_init cJ3_init 2 none) rm mc ms 1 ∧ yJ3_init.name = "<init>" ∧ (Cond.instanceMethod yJ3_init).before args s = true :=
  cwI 1 hts (lw_meth q795) rfl hrc hrs (hts _ q117) (hts _ hl) (hts _ q794) rfl (by decide +kernel) hR
set_option maxRecDepth 100000 in
theorem mtJ3_init (l : Launch) (D : va_G) (k : Nat → ClassId) (Z : zZ) (hOK : zOK D zCl (zTys k) Z) (hCs : zCs Z) (q : Nat) : CtW l yJ3_init cJ3_init 2 none rJ3_init Z D zCl (sb0 q) [.ref q, .int (16 : Int32)] (fun r' w' => ∃ v, r' = none ∧ w' = sbC k q v 16 0 (fun _ => 0)) 1 16 := by
  refine CtW.of (by decide) (Nat.le_of_ble_eq_true rfl) ?_
  intro p e9 s m args below meth c A hE hA hP hD hS hz ls hl
  obtain ⟨hx, hb, hr, hml, hown, hts, hlocks, hname⟩ := hE
  have hown : s.vm.findClass RJ3 = some m.cls := hown
  have hK := hOK.1 _ _ _ hz
  have hN := hOK.2.1 _ _ _ hz
  have hl : lv_has ls 2 [(0, .ref q), (1, .int (16 : Int32))] := hl
  refine lv_aload_n hx hb dJ3_init_0 rfl (lv_at hl 0 rfl) ?_
  refine W.objInit hx hb hown (hts _ q796) (hts _ q154) (hts _ q155) rfl (by rw [hml]; exact hl.1) rfl dJ3_init_1 (Nat.le_of_ble_eq_true rfl) (Nat.le_of_ble_eq_true rfl) ?_
  refine W.eq (g2 := F0 m 4 ls []) rfl ?_
  refine va_gets hx hb (hCs _ _ _ hz) hS hown (hts _ q797) (fun _ h9 => h9) dJ3_init_4 ?_
  refine lv_if_eq (tgt := 25) hx hb dJ3_init_7 (by decide) (fun c1 => absurd c1 (by decide)) (fun _ => ?_)
  refine lv_aload_n hx hb dJ3_init_10 rfl (lv_at hl 0 rfl) ?_
  refine lv_iload_n hx hb dJ3_init_11 rfl (lv_at hl 1 rfl) ?_
  refine va_newa (atype := .byte) (ty := .byte) (a0 := (16, .inl (fun _ => 0))) (N' := 16) hx hb (hts _ q286) rfl hK hP hD hS hA (fun _ => rfl) (by decide) (by decide) (by decide) (Nat.le_of_ble_eq_true rfl) (Nat.le_of_ble_eq_true rfl) dJ3_init_12 (fun v cA H hK2 hP hD hS => ?_)
  cases zcAg hK2 2 rfl
  have hP : va_P D zCl ([(q, .inr (16, [.null, .int 0, .int 0, .int 0]))] ++ [(v, .inl (k 2, 16, .inl (fun _ => 0)))]) _ := hP
  have hD : va_D A ([(q, .inr (16, [.null, .int 0, .int 0, .int 0]))] ++ [(v, .inl (k 2, 16, .inl (fun _ => 0)))]) := hD
  refine va_put (ci := 16) (v := .ref v) (ty := tyJ4 0) (C := RJ4) (T := TJ4) (N := 4) hx hb hts in_J4 tyJ4 tyJ4_ok nmJ4 hown hK hP hD hS 0 rfl rfl 0 (by decide) (hts _ q806) (fun _ h9 => h9) rfl (tyJ4_ok 0 (by decide)) rfl rfl (Nat.le_of_ble_eq_true rfl) dJ3_init_14 (fun H locs hP hD hS => ?_)
  have hP : va_P D zCl ([(q, .inr (16, [.ref v, .int 0, .int 0, .int 0]))] ++ [(v, .inl (k 2, 16, .inl (fun _ => 0)))]) _ := hP
  have hD : va_D A ([(q, .inr (16, [.ref v, .int 0, .int 0, .int 0]))] ++ [(v, .inl (k 2, 16, .inl (fun _ => 0)))]) := hD
  refine lv_aload_n hx hb dJ3_init_17 rfl (lv_at hl 0 rfl) ?_
  refine lv_iconst (v := (0 : Int32)) hx hb dJ3_init_18 (by decide) ?_
  refine va_put (ci := 16) (v := .int (0 : Int32)) (ty := tyJ4 1) (C := RJ4) (T := TJ4) (N := 4) hx hb hts in_J4 tyJ4 tyJ4_ok nmJ4 hown hK hP hD hS 0 rfl rfl 1 (by decide) (hts _ q807) (fun _ h9 => h9) rfl (tyJ4_ok 1 (by decide)) rfl rfl (Nat.le_of_ble_eq_true rfl) dJ3_init_19 (fun H locs hP hD hS => ?_)
  have hP : va_P D zCl ([(q, .inr (16, [.ref v, .int 0, .int 0, .int 0]))] ++ [(v, .inl (k 2, 16, .inl (fun _ => 0)))]) _ := hP
  have hD : va_D A ([(q, .inr (16, [.ref v, .int 0, .int 0, .int 0]))] ++ [(v, .inl (k 2, 16, .inl (fun _ => 0)))]) := hD
  refine lv_goto (tgt := 38) hx hb dJ3_init_22 (by decide) ?_
  exact retW_v hx hb hr hlocks hP hD hS ⟨v, rfl, rfl⟩ dJ3_init_38
def rJ4_init : Room := { frames := 2, cells := 1, slots := 16, locals := 60 }
theorem kJ4_init {R : Room} {s : State} {args : Array Value} {own : String} {idx mc ms : Nat} {rm : Room} (hts : ∀ w ∈ lw_all, w.before args s = true) (hl : Cond.methodLink own idx yJ4_init ∈ lw_all) (hrc : rm.cells = mc) (hrs : rm.slots = ms) (hR : rm.frames + 1 ≤ R.frames ∧ 8 + (1 + 11) + rm.locals ≤ R.locals) : CallB R s args own idx yJ4_init cJ4_init 1 none (ws_ yJ4_init cJ4_init 1 none) rm mc ms 0 ∧ yJ4_init.name = "<init>" ∧ (Cond.instanceMethod yJ4_init).before args s = true :=
  cwI 0 hts (lw_meth q792) rfl hrc hrs (hts _ q118) (hts _ hl) (hts _ q791) rfl (by decide +kernel) hR
set_option maxRecDepth 100000 in
theorem mtJ4_init (l : Launch) (D : va_G) (k : Nat → ClassId) (Z : zZ) (hOK : zOK D zCl (zTys k) Z) (hCs : zCs Z) (q : Nat) : CtW l yJ4_init cJ4_init 1 none rJ4_init Z D zCl (sb0 q) [.ref q] (fun r' w' => ∃ v, r' = none ∧ w' = sbC k q v 16 0 (fun _ => 0)) 1 16 := by
  refine CtW.of (by decide) (Nat.le_of_ble_eq_true rfl) ?_
  intro p e9 s m args below meth c A hE hA hP hD hS hz ls hl
  obtain ⟨hx, hb, hr, hml, hown, hts, hlocks, hname⟩ := hE
  have hown : s.vm.findClass RJ4 = some m.cls := hown
  have hK := hOK.1 _ _ _ hz
  have hN := hOK.2.1 _ _ _ hz
  have hl : lv_has ls 1 [(0, .ref q)] := hl
  refine lv_aload_n hx hb dJ4_init_0 rfl (lv_at hl 0 rfl) ?_
  refine lv_bipush (v := (16 : Int32)) hx hb dJ4_init_1 (by decide) ?_
  have hP : va_P D zCl ([] ++ (sb0 q ++ [])) _ := hP
  have hD : va_D A ([] ++ (sb0 q ++ [])) := hD
  refine cWI [] (sb0 q) [] (As := [.int (16 : Int32)]) ⟨hx, hb, hml, hown, hts⟩ hOK hz hS hA hP hD (mtJ3_init l D k Z hOK hCs q) (kJ3_init hts q793 rfl rfl ⟨Nat.le_of_ble_eq_true rfl, Nat.le_of_ble_eq_true rfl⟩) rfl hl.1 rfl (lv_room (Nat.le_of_ble_eq_true rfl)) ⟨(Nat.le_of_ble_eq_true rfl), (Nat.le_of_ble_eq_true rfl)⟩ dJ4_init_3 (fun r_ w_ H locs hq hP hD hS => ?_)
  obtain ⟨v, rfl, rfl⟩ := hq
  have hP : va_P D zCl (sbC k q v 16 0 (fun _ => 0)) _ := hP
  have hD : va_D A (sbC k q v 16 0 (fun _ => 0)) := hD
  exact retW_v hx hb hr hlocks hP hD hS ⟨v, rfl, rfl⟩ dJ4_init_6
def rJ3_0 : Room := { frames := 0, cells := 0, slots := 0, locals := 0 }
theorem kJ3_isLatin1 {R : Room} {s : State} {args : Array Value} {own : String} {idx mc ms : Nat} {rm : Room} (hts : ∀ w ∈ lw_all, w.before args s = true) (hsel : (Cond.selects RJ4 yJ3_isLatin1 yJ3_isLatin1).before args s = true) (hl : Cond.methodLink own idx yJ3_isLatin1 ∈ lw_all) (hrc : rm.cells = mc) (hrs : rm.slots = ms) (hR : rm.frames + 1 ≤ R.frames ∧ 8 + (1 + 11) + rm.locals ≤ R.locals) : CallW R s args own RJ4 idx yJ3_isLatin1 cJ3_isLatin1 1 (some .boolean) (ws_ yJ3_isLatin1 cJ3_isLatin1 1 (some .boolean)) rm mc ms 0 :=
  ⟨callB_of 0 hts (lw_meth q859) rfl hrc hrs (hts _ q117) (hts _ hl) (by decide +kernel) hR, hts _ q856, hsel⟩
set_option maxRecDepth 100000 in
theorem mtJ3_isLatin1 (l : Launch) (D : va_G) (k : Nat → ClassId) (Z : zZ) (hOK : zOK D zCl (zTys k) Z) (hCs : zCs Z) (q v cap n : Nat) (f : Nat → Int32) : CtR l yJ3_isLatin1 cJ3_isLatin1 1 (some .boolean) rJ3_0 Z D zCl (sbC k q v cap n f) [.ref q] (some (.int (bz true))) := by
  refine CtR.of (by decide) (Nat.le_of_ble_eq_true rfl) ?_
  intro p e9 s m args below meth c hE hP hz ls hl
  obtain ⟨hx, hb, hr, hml, hown, hts, hlocks, hname⟩ := hE
  have hown : s.vm.findClass RJ3 = some m.cls := hown
  have hK := hOK.1 _ _ _ hz
  have hN := hOK.2.1 _ _ _ hz
  have hl : lv_has ls 1 [(0, .ref q)] := hl
  refine va_gets hx hb (hCs _ _ _ hz) va_S.rf hown (hts _ q797) (fun _ h9 => h9) dJ3_isLatin1_0 ?_
  refine lv_if_eq (tgt := 17) hx hb dJ3_isLatin1_3 (by decide) (fun c1 => absurd c1 (by decide)) (fun _ => ?_)
  refine lv_aload_n hx hb dJ3_isLatin1_6 rfl (lv_at hl 0 rfl) ?_
  refine va_get (ci := 16) (v := .int 0) (C := RJ4) (T := TJ4) (N := 4) hx hb hts in_J4 hown hK hP 0 rfl rfl 1 (by decide) (hts _ q807) (fun _ h9 => h9) rfl dJ3_isLatin1_7 ?_
  refine lv_if_ne (tgt := 17) hx hb dJ3_isLatin1_10 (by decide) (fun c1 => absurd rfl c1) (fun _ => ?_)
  refine lv_iconst (v := bz true) hx hb dJ3_isLatin1_13 (by decide) ?_
  refine lv_goto (tgt := 18) hx hb dJ3_isLatin1_14 (by decide) ?_
  exact retR_z hx hb hr hlocks rfl dJ3_isLatin1_18
theorem kJ10_canEncode {R : Room} {s : State} {args : Array Value} {own : String} {idx mc ms : Nat} {rm : Room} (hts : ∀ w ∈ lw_all, w.before args s = true) (hl : Cond.methodLink own idx yJ10_canEncode ∈ lw_all) (hrc : rm.cells = mc) (hrs : rm.slots = ms) (hR : rm.frames + 1 ≤ R.frames ∧ 8 + (1 + 11) + rm.locals ≤ R.locals) : CallB R s args own idx yJ10_canEncode cJ10_canEncode 1 (some .boolean) (ws_ yJ10_canEncode cJ10_canEncode 1 (some .boolean)) rm mc ms 1 ∧ (Cond.static yJ10_canEncode).before args s = true :=
  va_cwS 1 hts (lw_S hl q861 q124 q862) rfl hrc hrs (by decide +kernel) hR
set_option maxRecDepth 100000 in
theorem mtJ10_canEncode (l : Launch) (D : va_G) (k : Nat → ClassId) (Z : zZ) (hOK : zOK D zCl (zTys k) Z) (x : Int32) (hx9 : ¬ (255 : Int32) < x) : CtR l yJ10_canEncode cJ10_canEncode 1 (some .boolean) rJ3_0 Z D zCl [] [.int x] (some (.int (bz true))) := by
  refine CtR.of (by decide) (Nat.le_of_ble_eq_true rfl) ?_
  intro p e9 s m args below meth c hE hP hz ls hl
  obtain ⟨hx, hb, hr, hml, hown, hts, hlocks, hname⟩ := hE
  have hown : s.vm.findClass RJ10 = some m.cls := hown
  have hK := hOK.1 _ _ _ hz
  have hN := hOK.2.1 _ _ _ hz
  have hl : lv_has ls 1 [(0, .int x)] := hl
  refine lv_iload_n hx hb dJ10_canEncode_0 rfl (lv_at hl 0 rfl) ?_
  refine lv_sipush (v := (255 : Int32)) hx hb dJ10_canEncode_1 (by decide) ?_
  refine lv_icmp_gt (tgt := 11) hx hb dJ10_canEncode_4 (by decide) (fun c1 => absurd c1 hx9) (fun _ => ?_)
  refine lv_iconst (v := bz true) hx hb dJ10_canEncode_7 (by decide) ?_
  refine lv_goto (tgt := 12) hx hb dJ10_canEncode_8 (by decide) ?_
  exact retR_z hx hb hr hlocks rfl dJ10_canEncode_12
set_option maxRecDepth 100000 in
theorem mtJ7_newLengthG (l : Launch) (D : va_G) (k : Nat → ClassId) (Z : zZ) (hOK : zOK D zCl (zTys k) Z) (n g : Nat) (h1 : 1 ≤ g) (hn : n + g < 2 ^ 30) : CtR l yJ7_newLength cJ7_newLength 4 (some .int) (rLs 1 0 0 40) Z D zCl [] [.int (nI n), .int (nI 1), .int (nI g)] (some (.int (nI ((n + g))))) := by
  refine CtR.of (by decide) (Nat.le_of_ble_eq_true rfl) ?_
  intro p e9 s m args below meth c hE hP hz ls hl
  obtain ⟨hx, hb, hr, hml, hown, hts, hlocks, hname⟩ := hE
  have hown : s.vm.findClass RJ7 = some m.cls := hown
  have hK := hOK.1 _ _ _ hz
  have hN := hOK.2.1 _ _ _ hz
  have hl : lv_has ls 4 [(0, .int (nI n)), (1, .int (nI 1)), (2, .int (nI g))] := hl
  refine lv_iload_n hx hb dJ7_newLength_0 rfl (lv_at hl 0 rfl) ?_
  refine lv_iload_n hx hb dJ7_newLength_1 rfl (lv_at hl 1 rfl) ?_
  refine lv_iload_n hx hb dJ7_newLength_2 rfl (lv_at hl 2 rfl) ?_
  refine va_mmax hx hb (hml.trans hl.1.symm) hown (hts _ q837) (hts _ q553) (hts _ q122) (hts _ q554) (Nat.le_of_ble_eq_true rfl) (Nat.le_of_ble_eq_true rfl) (Nat.le_of_ble_eq_true rfl) (Nat.le_of_ble_eq_true rfl) dJ7_newLength_3 ?_
  have e9 : zmx (nI 1) (nI g) = nI (g) := by
    unfold zmx
    by_cases h : 1 < g
    · rw [if_pos (nI_lt h (by omega))]
    · rw [if_neg (nI_nlt (by omega) (by omega)), show g = 1 by omega]
  refine W.eq (g2 := F0 m 6 ls [.int (nI (g)), .int (nI n)]) (by show F0 m 6 ls [.int (zmx (nI 1) (nI g)), .int (nI n)] = _; rw [e9]) ?_
  refine lv_iadd hx hb dJ7_newLength_6 ?_
  refine W.eq (g2 := F0 m 7 ls [.int (nI ((n + g)))]) (by show F0 m 7 ls [.int (nI n + nI (g))] = _; rw [nI_add]) ?_
  refine lv_istore_n (lv' := [(3, .int (nI ((n + g)))), (0, .int (nI n)), (1, .int (nI 1)), (2, .int (nI g))]) hx hb dJ7_newLength_7 rfl hl (by decide) rfl (fun ls hl => ?_)
  have hc1 : (n + g) < 2 ^ 30 := by omega
  have hc0 : 0 < (n + g) := by omega
  refine lv_iconst (v := nI 0) hx hb dJ7_newLength_8 (by decide) ?_
  refine lv_iload_n hx hb dJ7_newLength_9 rfl (lv_at hl 0 rfl) ?_
  refine lv_icmp_ge (tgt := 21) hx hb dJ7_newLength_10 (by decide) (fun c1 => absurd c1 (nI_ge hc0 (by omega))) (fun _ => ?_)
  refine lv_iload_n hx hb dJ7_newLength_13 rfl (lv_at hl 0 rfl) ?_
  refine lv_ldc (v := (2147483639 : Int32)) hx hb hown (hts _ q838) dJ7_newLength_14 ?_
  refine lv_icmp_gt (tgt := 21) hx hb dJ7_newLength_16 (by decide) (fun c1 => absurd c1 (show ¬ nI 2147483639 < nI ((n + g)) from nI_nlt (by omega) (by omega))) (fun _ => ?_)
  refine lv_iload_n hx hb dJ7_newLength_19 rfl (lv_at hl 0 rfl) ?_
  exact retR_i hx hb hr hlocks rfl dJ7_newLength_20
theorem nI_dif (n : Nat) : nI (n + 1) - nI n = nI 1 := by
  rw [nI_succ, Int32.add_comm]
  exact Int32.add_sub_cancel _ _
theorem kJ3_newCapacity {R : Room} {s : State} {args : Array Value} {own : String} {idx mc ms : Nat} {rm : Room} (hts : ∀ w ∈ lw_all, w.before args s = true) (hsel : (Cond.selects RJ4 yJ3_newCapacity yJ3_newCapacity).before args s = true) (hl : Cond.methodLink own idx yJ3_newCapacity ∈ lw_all) (hrc : rm.cells = mc) (hrs : rm.slots = ms) (hR : rm.frames + 1 ≤ R.frames ∧ 8 + (6 + 11) + rm.locals ≤ R.locals) : CallW R s args own RJ4 idx yJ3_newCapacity cJ3_newCapacity 6 (some .int) (ws_ yJ3_newCapacity cJ3_newCapacity 6 (some .int)) rm mc ms 1 :=
  ⟨callB_of 1 hts (lw_meth q833) rfl hrc hrs (hts _ q117) (hts _ hl) (by decide +kernel) hR, hts _ q832, hsel⟩
theorem nI_nmx {n : Nat} (h : n < 2 ^ 30) : ¬ nI n = (2147483647 : Int32) := by
  intro e
  have := congrArg Int32.toInt e
  rw [nI_toInt (by omega)] at this
  have h2 : (2147483647 : Int32).toInt = 2147483647 := by decide
  omega
set_option maxRecDepth 100000 in
theorem mtJ3_newCapacity (l : Launch) (D : va_G) (k : Nat → ClassId) (Z : zZ) (hOK : zOK D zCl (zTys k) Z) (q v cap n : Nat) (f : Nat → Int32) (hc9 : cap < 2 ^ 20) : CtR l yJ3_newCapacity cJ3_newCapacity 6 (some .int) (rLs 2 0 0 80) Z D zCl (sbC k q v cap n f) [.ref q, .int (nI (cap + 1))] (some (.int (nI (2 * cap + 2)))) := by
  refine CtR.of (by decide) (Nat.le_of_ble_eq_true rfl) ?_
  intro p e9 s m args below meth c hE hP hz ls hl
  obtain ⟨hx, hb, hr, hml, hown, hts, hlocks, hname⟩ := hE
  have hown : s.vm.findClass RJ3 = some m.cls := hown
  have hK := hOK.1 _ _ _ hz
  have hN := hOK.2.1 _ _ _ hz
  have hl : lv_has ls 6 [(0, .ref q), (1, .int (nI (cap + 1)))] := hl
  refine lv_aload_n hx hb dJ3_newCapacity_0 rfl (lv_at hl 0 rfl) ?_
  refine va_get (ci := 16) (v := .ref v) (C := RJ4) (T := TJ4) (N := 4) hx hb hts in_J4 hown hK hP 0 rfl rfl 0 (by decide) (hts _ q806) (fun _ h9 => h9) rfl dJ3_newCapacity_1 ?_
  refine va_alen (v := nI cap) hx hb hK hP 1 2 rfl rfl rfl dJ3_newCapacity_4 ?_
  refine lv_istore_n (lv' := [(2, .int (nI cap)), (0, .ref q), (1, .int (nI (cap + 1)))]) hx hb dJ3_newCapacity_5 rfl hl (by decide) rfl (fun ls hl => ?_)
  refine lv_iload_n hx hb dJ3_newCapacity_6 rfl (lv_at hl 2 rfl) ?_
  refine lv_aload_n hx hb dJ3_newCapacity_7 rfl (lv_at hl 1 rfl) ?_
  refine va_get (ci := 16) (v := .int (0 : Int32)) (C := RJ4) (T := TJ4) (N := 4) hx hb hts in_J4 hown hK hP 0 rfl rfl 1 (by decide) (hts _ q807) (fun _ h9 => h9) rfl dJ3_newCapacity_8 ?_
  refine lv_ishl hx hb dJ3_newCapacity_11 ?_
  rw [sb_shl0]
  refine lv_istore_n (lv' := [(3, .int (nI (cap + 1))), (2, .int (nI cap)), (0, .ref q), (1, .int (nI (cap + 1)))]) hx hb dJ3_newCapacity_12 rfl hl (by decide) rfl (fun ls hl => ?_)
  refine lv_iload_n hx hb dJ3_newCapacity_13 rfl (lv_at hl 0 rfl) ?_
  refine lv_iload_n hx hb dJ3_newCapacity_14 rfl (lv_at hl 1 rfl) ?_
  refine lv_isub hx hb dJ3_newCapacity_15 ?_
  rw [nI_dif]
  refine lv_istore (lv' := [(4, .int (nI 1)), (3, .int (nI (cap + 1))), (2, .int (nI cap)), (0, .ref q), (1, .int (nI (cap + 1)))]) hx hb dJ3_newCapacity_16 hl (by decide) rfl (fun ls hl => ?_)
  refine lv_iload_n hx hb dJ3_newCapacity_18 rfl (lv_at hl 2 rfl) ?_
  refine lv_iload hx hb dJ3_newCapacity_19 (lv_at hl 0 rfl) ?_
  refine lv_iload_n hx hb dJ3_newCapacity_21 rfl (lv_at hl 2 rfl) ?_
  refine lv_iconst (v := (2 : Int32)) hx hb dJ3_newCapacity_22 (by decide) ?_
  refine lv_aload_n hx hb dJ3_newCapacity_23 rfl (lv_at hl 3 rfl) ?_
  refine va_get (ci := 16) (v := .int (0 : Int32)) (C := RJ4) (T := TJ4) (N := 4) hx hb hts in_J4 hown hK hP 0 rfl rfl 1 (by decide) (hts _ q807) (fun _ h9 => h9) rfl dJ3_newCapacity_24 ?_
  refine lv_ishl hx hb dJ3_newCapacity_27 ?_
  rw [sb_shl0]
  refine lv_iadd hx hb dJ3_newCapacity_28 ?_
  rw [show (nI cap + (2 : Int32)) = nI (cap + 2) from nI_add cap 2]
  refine cRS (ws := []) (As := [.int (nI cap), .int (nI 1), .int (nI (cap + 2))]) ⟨hx, hb, hml, hown, hts⟩ hOK hz va_S.rf zP0 (mtJ7_newLengthG l D k Z hOK cap (cap + 2) (by omega) (by omega)) (kJ7_newLength hts q834 rfl rfl ⟨Nat.le_of_ble_eq_true rfl, Nat.le_of_ble_eq_true rfl⟩) rfl hl.1 rfl (lv_room (Nat.le_of_ble_eq_true rfl)) ⟨(Nat.le_of_ble_eq_true rfl), (Nat.le_of_ble_eq_true rfl)⟩ dJ3_newCapacity_29 ?_
  refine W.eq (g2 := F0 m 32 ls [.int (nI (2 * cap + 2))]) (by show F0 m 32 ls [.int (nI (cap + (cap + 2)))] = _; rw [show cap + (cap + 2) = 2 * cap + 2 by omega]) ?_
  refine lv_istore (lv' := [(5, .int (nI (2 * cap + 2))), (4, .int (nI 1)), (3, .int (nI (cap + 1))), (2, .int (nI cap)), (0, .ref q), (1, .int (nI (cap + 1)))]) hx hb dJ3_newCapacity_32 hl (by decide) rfl (fun ls hl => ?_)
  refine lv_iload hx hb dJ3_newCapacity_34 (lv_at hl 0 rfl) ?_
  refine lv_ldc (v := (2147483647 : Int32)) hx hb hown (hts _ q842) dJ3_newCapacity_36 ?_
  refine lv_icmp_ne (tgt := 51) hx hb dJ3_newCapacity_38 (by decide) (fun _ => ?_) (fun c1 => absurd c1 (nI_nmx (by omega)))
  refine lv_iload hx hb dJ3_newCapacity_51 (lv_at hl 0 rfl) ?_
  refine lv_aload_n hx hb dJ3_newCapacity_53 rfl (lv_at hl 4 rfl) ?_
  refine va_get (ci := 16) (v := .int (0 : Int32)) (C := RJ4) (T := TJ4) (N := 4) hx hb hts in_J4 hown hK hP 0 rfl rfl 1 (by decide) (hts _ q807) (fun _ h9 => h9) rfl dJ3_newCapacity_54 ?_
  refine lv_ishr hx hb dJ3_newCapacity_57 ?_
  rw [sb_shr0]
  exact retR_i hx hb hr hlocks rfl dJ3_newCapacity_58
theorem kJ9_copyOf {R : Room} {s : State} {args : Array Value} {own : String} {idx mc ms : Nat} {rm : Room} (hts : ∀ w ∈ lw_all, w.before args s = true) (hl : Cond.methodLink own idx yJ9_copyOf ∈ lw_all) (hrc : rm.cells = mc) (hrs : rm.slots = ms) (hR : rm.frames + 1 ≤ R.frames ∧ 8 + (3 + 11) + rm.locals ≤ R.locals) : CallB R s args own idx yJ9_copyOf cJ9_copyOf 3 (some (.array .byte)) (ws_ yJ9_copyOf cJ9_copyOf 3 (some (.array .byte))) rm mc ms 2 ∧ (Cond.static yJ9_copyOf).before args s = true :=
  va_cwS 2 hts (lw_S hl q844 q123 q845) rfl hrc hrs (by decide +kernel) hR
theorem nI_nei {a b : Nat} (h : a ≠ b) (ha : a < 2 ^ 31) (hb : b < 2 ^ 31) : ¬ nI a = nI b := by
  intro e
  have := congrArg Int32.toInt e
  rw [nI_toInt ha, nI_toInt hb] at this
  omega
theorem nI_sub0 {a b : Nat} (ha : a < 2 ^ 30) (hb : b < 2 ^ 30) : nI a - nI b ≤ 0 ↔ a ≤ b := by
  rw [Int32.le_iff_toInt_le, pk_sub_toInt ha hb, Int32.toInt_zero]
  omega
set_option maxRecDepth 100000 in
theorem mtJ9_copyOfB (l : Launch) (D : va_G) (k : Nat → ClassId) (Z : zZ) (hOK : zOK D zCl (zTys k) Z) (v cap N9 : Nat) (f : Nat → Int32) (hF : sb_Fit f) (hlt : cap < N9) (hN9 : N9 < 2 ^ 27) : CtW l yJ9_copyOf cJ9_copyOf 3 (some (.array .byte)) (rLs 1 1 N9 60) Z D zCl [(v, .inl (k 2, cap, .inl f))] [.ref v, .int (nI N9)] (fun r' w' => ∃ v1, r' = some (.ref v1) ∧ w' = ([(v, .inl (k 2, cap, .inl f))] ++ [(v1, .inl (k 2, N9, .inl (va_cpy f (fun _ => 0) 0 0 cap)))])) 1 N9 := by
  refine CtW.of (by decide) (Nat.le_of_ble_eq_true rfl) ?_
  intro p e9 s m args below meth c A hE hA hP hD hS hz ls hl
  obtain ⟨hx, hb, hr, hml, hown, hts, hlocks, hname⟩ := hE
  have hown : s.vm.findClass RJ9 = some m.cls := hown
  have hK := hOK.1 _ _ _ hz
  have hN := hOK.2.1 _ _ _ hz
  have hl : lv_has ls 3 [(0, .ref v), (1, .int (nI N9))] := hl
  refine lv_iload_n hx hb dJ9_copyOf_0 rfl (lv_at hl 1 rfl) ?_
  refine lv_aload_n hx hb dJ9_copyOf_1 rfl (lv_at hl 0 rfl) ?_
  refine va_alen (v := nI cap) hx hb hK hP 0 2 rfl rfl rfl dJ9_copyOf_2 ?_
  refine lv_icmp_ne (tgt := 14) hx hb dJ9_copyOf_3 (by decide) (fun _ => ?_) (fun c1 => absurd c1 (nI_nei (by omega) (by omega) (by omega)))
  refine lv_iload_n hx hb dJ9_copyOf_14 rfl (lv_at hl 1 rfl) ?_
  refine va_newa (atype := .byte) (ty := .byte) (a0 := (N9, .inl (fun _ => 0))) (N' := N9) hx hb (hts _ q286) rfl hK hP hD hS hA (fun _ => rfl) (nI_pos (by omega)) (nI_clamp (by omega)) (by show N9 * 1 ≤ _; omega) (Nat.le_refl _) (by show 0 + N9 ≤ N9; omega) dJ9_copyOf_15 (fun v1 cA H hK2 hP hD hS => ?_)
  cases zcAg hK2 2 rfl
  have hP : va_P D zCl ([(v, .inl (k 2, cap, .inl f))] ++ [(v1, .inl (k 2, N9, .inl (fun _ => 0)))]) _ := hP
  have hD : va_D A ([(v, .inl (k 2, cap, .inl f))] ++ [(v1, .inl (k 2, N9, .inl (fun _ => 0)))]) := hD
  refine lv_astore_n (lv' := [(2, .ref v1), (0, .ref v), (1, .int (nI N9))]) hx hb dJ9_copyOf_17 rfl hl (by decide) rfl (fun ls hl => ?_)
  refine lv_aload_n hx hb dJ9_copyOf_18 rfl (lv_at hl 1 rfl) ?_
  refine lv_iconst (v := nI 0) hx hb dJ9_copyOf_19 (by decide) ?_
  refine lv_aload_n hx hb dJ9_copyOf_20 rfl (lv_at hl 0 rfl) ?_
  refine lv_iconst (v := nI 0) hx hb dJ9_copyOf_21 (by decide) ?_
  refine lv_aload_n hx hb dJ9_copyOf_22 rfl (lv_at hl 1 rfl) ?_
  refine va_alen (v := nI cap) hx hb hK hP 0 2 rfl rfl rfl dJ9_copyOf_23 ?_
  refine lv_iload_n hx hb dJ9_copyOf_24 rfl (lv_at hl 2 rfl) ?_
  refine va_mmin hx hb (hml.trans hl.1.symm) hown (hts _ q853) (hts _ q550) (hts _ q122) (hts _ q551) (Nat.le_of_ble_eq_true rfl) (Nat.le_of_ble_eq_true rfl) (Nat.le_of_ble_eq_true rfl) (by show 0 + N9 ≤ N9; omega) dJ9_copyOf_25 ?_
  refine W.eq (g2 := F0 m 28 ls [.int (nI cap), .int (nI 0), .ref v1, .int (nI 0), .ref v]) (by show F0 m 28 ls [.int (if nI N9 < nI cap then nI N9 else nI cap), .int (nI 0), .ref v1, .int (nI 0), .ref v] = _; rw [if_neg (nI_nlt (by omega) (by omega))]) ?_
  have q0 : (nI 0).toNatClampNeg = 0 := by decide
  have q1 : (nI cap).toNatClampNeg = cap := nI_clamp (by omega)
  refine va_copyi (ty := .byte) hx hb (hml.trans hl.1.symm) hown (hts _ q854) (hts _ q443) (hts _ q442) (hts _ q116) hK hP hD hS 0 1 2 2 rfl rfl rfl rfl rfl (by decide) (by decide) (nI_pos (by omega)) (by rw [q0, q1]; omega) (by rw [q0, q1]; omega) (fun i _ => hF _) (Nat.le_of_ble_eq_true rfl) (Nat.le_of_ble_eq_true rfl) dJ9_copyOf_28 (fun H locs hP hD hS => ?_)
  rw [q0, q1] at hP hD
  have hP : va_P D zCl ([(v, .inl (k 2, cap, .inl f))] ++ [(v1, .inl (k 2, N9, .inl (va_cpy f (fun _ => 0) 0 0 cap)))]) _ := hP
  have hD : va_D A ([(v, .inl (k 2, cap, .inl f))] ++ [(v1, .inl (k 2, N9, .inl (va_cpy f (fun _ => 0) 0 0 cap)))]) := hD
  refine lv_aload_n hx hb dJ9_copyOf_31 rfl (lv_at hl 0 rfl) ?_
  refine W.widen (k := 1) (n := N9) (Nat.le_refl _) (by omega) ?_
  exact retW_a hx hb hr (Or.inr ⟨_, rfl⟩) hlocks hP hD hS ⟨v1, rfl, rfl⟩ dJ9_copyOf_32
theorem kJ3_ensureCapacityInternal {R : Room} {s : State} {args : Array Value} {own : String} {idx mc ms : Nat} {rm : Room} (hts : ∀ w ∈ lw_all, w.before args s = true) (hsel : (Cond.selects RJ4 yJ3_ensureCapacityInternal yJ3_ensureCapacityInternal).before args s = true) (hl : Cond.methodLink own idx yJ3_ensureCapacityInternal ∈ lw_all) (hrc : rm.cells = mc) (hrs : rm.slots = ms) (hR : rm.frames + 1 ≤ R.frames ∧ 8 + (3 + 11) + rm.locals ≤ R.locals) : CallW R s args own RJ4 idx yJ3_ensureCapacityInternal cJ3_ensureCapacityInternal 3 none (ws_ yJ3_ensureCapacityInternal cJ3_ensureCapacityInternal 3 none) rm mc ms 1 :=
  ⟨callB_of 1 hts (lw_meth q829) rfl hrc hrs (hts _ q117) (hts _ hl) (by decide +kernel) hR, hts _ q828, hsel⟩
set_option maxRecDepth 100000 in
theorem mtJ3_ensA (l : Launch) (D : va_G) (k : Nat → ClassId) (Z : zZ) (hOK : zOK D zCl (zTys k) Z) (q v cap n : Nat) (f : Nat → Int32) (hlt : n < cap) (hc9 : cap < 2 ^ 20) : CtW l yJ3_ensureCapacityInternal cJ3_ensureCapacityInternal 3 none (rLs 0 0 0 0) Z D zCl (sbC k q v cap n f) [.ref q, .int (nI (n + 1))] (fun r' w' => r' = none ∧ w' = (sbC k q v cap n f)) 0 0 := by
  refine CtW.of (by decide) (Nat.le_of_ble_eq_true rfl) ?_
  intro p e9 s m args below meth c A hE hA hP hD hS hz ls hl
  obtain ⟨hx, hb, hr, hml, hown, hts, hlocks, hname⟩ := hE
  have hown : s.vm.findClass RJ3 = some m.cls := hown
  have hK := hOK.1 _ _ _ hz
  have hN := hOK.2.1 _ _ _ hz
  have hl : lv_has ls 3 [(0, .ref q), (1, .int (nI (n + 1)))] := hl
  refine lv_aload_n hx hb dJ3_ensureCapacityInternal_0 rfl (lv_at hl 0 rfl) ?_
  refine va_get (ci := 16) (v := .ref v) (C := RJ4) (T := TJ4) (N := 4) hx hb hts in_J4 hown hK hP 0 rfl rfl 0 (by decide) (hts _ q806) (fun _ h9 => h9) rfl dJ3_ensureCapacityInternal_1 ?_
  refine va_alen (v := nI cap) hx hb hK hP 1 2 rfl rfl rfl dJ3_ensureCapacityInternal_4 ?_
  refine lv_aload_n hx hb dJ3_ensureCapacityInternal_5 rfl (lv_at hl 0 rfl) ?_
  refine va_get (ci := 16) (v := .int (0 : Int32)) (C := RJ4) (T := TJ4) (N := 4) hx hb hts in_J4 hown hK hP 0 rfl rfl 1 (by decide) (hts _ q807) (fun _ h9 => h9) rfl dJ3_ensureCapacityInternal_6 ?_
  refine lv_ishr hx hb dJ3_ensureCapacityInternal_9 ?_
  rw [sb_shr0]
  refine lv_istore_n (lv' := [(2, .int (nI cap)), (0, .ref q), (1, .int (nI (n + 1)))]) hx hb dJ3_ensureCapacityInternal_10 rfl hl (by decide) rfl (fun ls hl => ?_)
  refine lv_iload_n hx hb dJ3_ensureCapacityInternal_11 rfl (lv_at hl 2 rfl) ?_
  refine lv_iload_n hx hb dJ3_ensureCapacityInternal_12 rfl (lv_at hl 0 rfl) ?_
  refine lv_isub hx hb dJ3_ensureCapacityInternal_13 ?_
  refine lv_if_le (tgt := 38) hx hb dJ3_ensureCapacityInternal_14 (by decide) (fun _ => ?_) (fun c1 => absurd ((nI_sub0 (by omega) (by omega)).mpr (by omega)) c1)
  exact retW_v hx hb hr hlocks hP hD hS ⟨rfl, rfl⟩ dJ3_ensureCapacityInternal_38
set_option maxRecDepth 100000 in
theorem mtJ3_ensG (l : Launch) (D : va_G) (k : Nat → ClassId) (Z : zZ) (hOK : zOK D zCl (zTys k) Z) (hPv : zPv Z) (q v cap n : Nat) (f : Nat → Int32) (hF : sb_Fit f) (hc9 : cap < 2 ^ 20) : CtW l yJ3_ensureCapacityInternal cJ3_ensureCapacityInternal 3 none (rLs 3 1 (2 * cap + 2) 140) Z D zCl (sbC k q v cap n f) [.ref q, .int (nI (cap + 1))] (fun r' w' => ∃ v1, r' = none ∧ w' = sbC k q v1 (2 * cap + 2) n (va_cpy f (fun _ => 0) 0 0 cap)) 1 (2 * cap + 2) := by
  refine CtW.of (by decide) (Nat.le_of_ble_eq_true rfl) ?_
  intro p e9 s m args below meth c A hE hA hP hD hS hz ls hl
  obtain ⟨hx, hb, hr, hml, hown, hts, hlocks, hname⟩ := hE
  have hown : s.vm.findClass RJ3 = some m.cls := hown
  have hK := hOK.1 _ _ _ hz
  have hN := hOK.2.1 _ _ _ hz
  have hl : lv_has ls 3 [(0, .ref q), (1, .int (nI (cap + 1)))] := hl
  refine lv_aload_n hx hb dJ3_ensureCapacityInternal_0 rfl (lv_at hl 0 rfl) ?_
  refine va_get (ci := 16) (v := .ref v) (C := RJ4) (T := TJ4) (N := 4) hx hb hts in_J4 hown hK hP 0 rfl rfl 0 (by decide) (hts _ q806) (fun _ h9 => h9) rfl dJ3_ensureCapacityInternal_1 ?_
  refine va_alen (v := nI cap) hx hb hK hP 1 2 rfl rfl rfl dJ3_ensureCapacityInternal_4 ?_
  refine lv_aload_n hx hb dJ3_ensureCapacityInternal_5 rfl (lv_at hl 0 rfl) ?_
  refine va_get (ci := 16) (v := .int (0 : Int32)) (C := RJ4) (T := TJ4) (N := 4) hx hb hts in_J4 hown hK hP 0 rfl rfl 1 (by decide) (hts _ q807) (fun _ h9 => h9) rfl dJ3_ensureCapacityInternal_6 ?_
  refine lv_ishr hx hb dJ3_ensureCapacityInternal_9 ?_
  rw [sb_shr0]
  refine lv_istore_n (lv' := [(2, .int (nI cap)), (0, .ref q), (1, .int (nI (cap + 1)))]) hx hb dJ3_ensureCapacityInternal_10 rfl hl (by decide) rfl (fun ls hl => ?_)
  refine lv_iload_n hx hb dJ3_ensureCapacityInternal_11 rfl (lv_at hl 2 rfl) ?_
  refine lv_iload_n hx hb dJ3_ensureCapacityInternal_12 rfl (lv_at hl 0 rfl) ?_
  refine lv_isub hx hb dJ3_ensureCapacityInternal_13 ?_
  refine lv_if_le (tgt := 38) hx hb dJ3_ensureCapacityInternal_14 (by decide) (fun c1 => absurd ((nI_sub0 (by omega) (by omega)).mp c1) (by omega)) (fun _ => ?_)
  refine lv_aload_n hx hb dJ3_ensureCapacityInternal_17 rfl (lv_at hl 1 rfl) ?_
  refine lv_aload_n hx hb dJ3_ensureCapacityInternal_18 rfl (lv_at hl 1 rfl) ?_
  refine va_get (ci := 16) (v := .ref v) (C := RJ4) (T := TJ4) (N := 4) hx hb hts in_J4 hown hK hP 0 rfl rfl 0 (by decide) (hts _ q806) (fun _ h9 => h9) rfl dJ3_ensureCapacityInternal_19 ?_
  refine lv_aload_n hx hb dJ3_ensureCapacityInternal_22 rfl (lv_at hl 1 rfl) ?_
  refine lv_iload_n hx hb dJ3_ensureCapacityInternal_23 rfl (lv_at hl 2 rfl) ?_
  refine cRV (As := [.int (nI (cap + 1))]) (ci := 16) ⟨hx, hb, hml, hown, hts⟩ hOK hz hS hP (mtJ3_newCapacity l D k Z hOK q v cap n f hc9) (kJ3_newCapacity hts (hPv _ _ _ hz _).2 q830 rfl rfl ⟨Nat.le_of_ble_eq_true rfl, Nat.le_of_ble_eq_true rfl⟩) 0 rfl rfl rfl hl.1 rfl (lv_room (Nat.le_of_ble_eq_true rfl)) ⟨(Nat.le_of_ble_eq_true rfl), (Nat.le_of_ble_eq_true rfl)⟩ dJ3_ensureCapacityInternal_24 ?_
  refine W.eq (g2 := F0 m 27 ls [.int (nI (2 * cap + 2)), .ref v, .ref q]) rfl ?_
  refine lv_aload_n hx hb dJ3_ensureCapacityInternal_27 rfl (lv_at hl 1 rfl) ?_
  refine va_get (ci := 16) (v := .int (0 : Int32)) (C := RJ4) (T := TJ4) (N := 4) hx hb hts in_J4 hown hK hP 0 rfl rfl 1 (by decide) (hts _ q807) (fun _ h9 => h9) rfl dJ3_ensureCapacityInternal_28 ?_
  refine lv_ishl hx hb dJ3_ensureCapacityInternal_31 ?_
  rw [sb_shl0]
  have hP : va_P D zCl ([(q, .inr (16, [.ref v, .int 0, .int (bz false), .int (nI n)]))] ++ ([(v, .inl (k 2, cap, .inl f))] ++ [])) _ := hP
  have hD : va_D A ([(q, .inr (16, [.ref v, .int 0, .int (bz false), .int (nI n)]))] ++ ([(v, .inl (k 2, cap, .inl f))] ++ [])) := hD
  refine cWS [(q, .inr (16, [.ref v, .int 0, .int (bz false), .int (nI n)]))] [(v, .inl (k 2, cap, .inl f))] [] (As := [.ref v, .int (nI (2 * cap + 2))]) ⟨hx, hb, hml, hown, hts⟩ hOK hz hS hA hP hD (mtJ9_copyOfB l D k Z hOK v cap (2 * cap + 2) f hF (by omega) (by omega)) (kJ9_copyOf hts q843 rfl rfl ⟨Nat.le_of_ble_eq_true rfl, Nat.le_of_ble_eq_true rfl⟩) rfl hl.1 rfl (lv_room (Nat.le_of_ble_eq_true rfl)) ⟨(Nat.le_of_ble_eq_true rfl), (by show 0 + (2 * cap + 2) ≤ 2 * cap + 2; omega)⟩ dJ3_ensureCapacityInternal_32 (fun r_ w_ H locs hq hP hD hS => ?_)
  obtain ⟨v1, rfl, rfl⟩ := hq
  have hP : va_P D zCl [(q, .inr (16, [.ref v, .int 0, .int (bz false), .int (nI n)])), (v, .inl (k 2, cap, .inl f)), (v1, .inl (k 2, (2 * cap + 2), .inl (va_cpy f (fun _ => 0) 0 0 cap)))] _ := hP
  have hD : va_D A [(q, .inr (16, [.ref v, .int 0, .int (bz false), .int (nI n)])), (v, .inl (k 2, cap, .inl f)), (v1, .inl (k 2, (2 * cap + 2), .inl (va_cpy f (fun _ => 0) 0 0 cap)))] := hD
  refine va_put (ci := 16) (v := .ref v1) (ty := tyJ4 0) (C := RJ4) (T := TJ4) (N := 4) hx hb hts in_J4 tyJ4 tyJ4_ok nmJ4 hown hK hP hD hS 0 rfl rfl 0 (by decide) (hts _ q806) (fun _ h9 => h9) rfl (tyJ4_ok 0 (by decide)) rfl rfl (Nat.le_of_ble_eq_true rfl) dJ3_ensureCapacityInternal_35 (fun H locs hP hD hS => ?_)
  have hP : va_P D zCl [(q, .inr (16, [.ref v1, .int 0, .int (bz false), .int (nI n)])), (v, .inl (k 2, cap, .inl f)), (v1, .inl (k 2, (2 * cap + 2), .inl (va_cpy f (fun _ => 0) 0 0 cap)))] _ := hP
  have hD : va_D A [(q, .inr (16, [.ref v1, .int 0, .int (bz false), .int (nI n)])), (v, .inl (k 2, cap, .inl f)), (v1, .inl (k 2, (2 * cap + 2), .inl (va_cpy f (fun _ => 0) 0 0 cap)))] := hD
  have hP := hP.sub (ws' := sbC k q v1 (2 * cap + 2) n (va_cpy f (fun _ => 0) 0 0 cap)) [0, 2] rfl
  have hD := hD.sub (ws' := sbC k q v1 (2 * cap + 2) n (va_cpy f (fun _ => 0) 0 0 cap)) [0, 2] (by decide) rfl
  refine W.widen (k := 1) (n := 2 * cap + 2) (Nat.le_of_ble_eq_true rfl) (by omega) ?_
  exact retW_v hx hb hr hlocks hP hD hS ⟨v1, rfl, rfl⟩ dJ3_ensureCapacityInternal_38
section ZSU
variable {p : Program} {l : Launch} {e : Env} {R : Room} {s : State} {m : MethodId} {args : Array Value} {below : List Frame} {meth : Method} {c : Code} {H : Heap} {locs : List Loc} {cells slots : Nat} {Q : State → Prop}
variable {pc : Nat} {ls : Array Slot} {rest st0 : List Value} {D : va_G} {cl : List vw_C} {tys : List (ClassId × FieldType)} {Z : zZ} {A : Nat → Prop} {P : Option Value → va_W → Prop} {mc ms : Nat} {cc : ByteArray}
variable {y : MethodName} {cy : ByteArray} {mL nL n index : Nat} {ret : Option FieldType} {rm : Room} {own C : String} {b : Addr} {As : List Value} {ci N : Nat} {T0 : u_T} {fs : List Value}
theorem cWSU (pre ws post : va_W) (S : CallFix p m c cc nL s args lw_all own) (hOK : zOK D cl tys Z) (hz : Z A s s.heap) (hS : va_S A s.heap H locs) (hA : ∀ q : Nat, s.heap.size ≤ q → A q) (hP : va_P D cl (pre ++ (ws ++ post)) H) (hD : va_D A (pre ++ (ws ++ post))) (hM : CtW l y cy mL ret rm Z D cl ws (.ref b :: As) P mc ms) (cw : va_CS R s args own index y cy mL ret (ws_ y cy mL ret) rm mc ms n)
    (q0 : Nat) (he : ws[q0]? = some (b, .inr (ci, fs))) (hc : cl[ci]? = some (C, T0, N)) (hn : As.length = n) (hl : ls.size = nL) (hst : st0 = As.reverse ++ .ref b :: rest) (hW : 2 * (F0 m pc ls st0).monitorRoom + (rest.map fun v => v.category).sum ≤ 8) (hf : cells + mc ≤ R.cells ∧ slots + ms ≤ R.slots) (hdg : decode cc pc = .ok (.invokespecial index, 3))
    (kk : ∀ (r : Option Value) (ws' : va_W) (H1 : Heap) (locs1 : List Loc), P r ws' → va_P D cl (pre ++ (ws' ++ post)) H1 → va_D A (pre ++ (ws' ++ post)) → va_S A s.heap H1 locs1 → W p l e R s m args below meth c H1 locs1 (cells + mc) (slots + ms) Q (F0 m (pc + 3) ls (r.toList ++ rest))) : W p l e R s m args below meth c H locs cells slots Q (F0 m pc ls st0) := by
  have gw : (pre ++ (ws ++ post))[pre.length + q0]? = some (b, .inr (ci, fs)) := by rw [List.getElem?_append_right (by omega), List.getElem?_append_left (by have := (List.getElem?_eq_some_iff.mp he).1; omega), Nat.add_sub_cancel_left]; exact he
  exact cl_W (va_runSU (Qc := QWr P D cl (va_A ws H.size)) (Pc := PcW Z D cl ws (.ref b :: As) H.size) ((hOK.1 _ _ _ hz).1 ci _ hc).2 S (hM H.size) cw ⟨blindW hOK, va_recv (q := (C, T0, N)) (hOK.1 _ _ _ hz) hP hc gw, readyW hOK hz hS hP hD hA⟩ rfl hn hl hst hW hdg hf) hP hD hS hA kk
end ZSU
def mbSb (n cap : Nat) : Nat := if n < cap then 0 else 1
def msSb (n cap : Nat) : Nat := if n < cap then 0 else 2 * cap + 2
/-- what append leaves of the letters -/
def sbApp (n c : Nat) (f f' : Nat → Int32) : Prop := sb_Fit f' ∧ (∀ j, j < n → f' j = f j) ∧ f' n = sb_b c
def rSbA (n cap : Nat) : Room := rLs 4 (mbSb n cap) (msSb n cap) 180
theorem kJ3_appendS {R : Room} {s : State} {args : Array Value} {mc ms : Nat} {rm : Room} (hts : ∀ w ∈ lw_all, w.before args s = true) (hrc : rm.cells = mc) (hrs : rm.slots = ms) (hR : rm.frames + 1 ≤ R.frames ∧ 8 + (2 + 11) + rm.locals ≤ R.locals) : va_CS R s args RJ4 50 yJ3_append cJ3_append 2 (some (.object "java/lang/AbstractStringBuilder")) (ws_ yJ3_append cJ3_append 2 (some (.object "java/lang/AbstractStringBuilder"))) rm mc ms 1 :=
  va_cwSU 1 hts (lw_app (lw_in ([.methodLink RJ4 50 yJ3_append, .sameMethod RJ3 RJ3 "append" "(C)Ljava/lang/AbstractStringBuilder;", .superclass RJ4 RJ3, .instanceMethod yJ3_append, .initialized RJ3] : List Cond) [823, 2492, 818, 824, 117] (by decide +kernel) (by decide +kernel)) (lw_meth q825)) rfl hrc hrs (by decide +kernel) hR
set_option maxRecDepth 100000 in
theorem mtJ3_appA (l : Launch) (D : va_G) (k : Nat → ClassId) (Z : zZ) (hOK : zOK D zCl (zTys k) Z) (hCs : zCs Z) (hPv : zPv Z) (q v cap n c9 : Nat) (f : Nat → Int32) (hF : sb_Fit f) (hc : c9 < 256) (hc9 : cap < 2 ^ 20) (hlt : n < cap) : CtW l yJ3_append cJ3_append 2 (some (.object "java/lang/AbstractStringBuilder")) (rSbA n cap) Z D zCl (sbC k q v cap n f) [.ref q, .int (nI c9)] (fun r' w' => ∃ (v1 : Nat) (f1 : Nat → Int32), r' = some (.ref q) ∧ sbApp n c9 f f1 ∧ w' = sbC k q v1 (sbGrow n cap) (n + 1) f1) (mbSb n cap) (msSb n cap) := by
  refine CtW.of (by decide) (Nat.le_of_ble_eq_true rfl) ?_
  intro p e9 s m args below meth c A hE hA hP hD hS hz ls hl
  obtain ⟨hx, hb, hr, hml, hown, hts, hlocks, hname⟩ := hE
  have hown : s.vm.findClass RJ3 = some m.cls := hown
  have hK := hOK.1 _ _ _ hz
  have hN := hOK.2.1 _ _ _ hz
  have hl : lv_has ls 2 [(0, .ref q), (1, .int (nI c9))] := hl
  refine lv_aload_n hx hb dJ3_append_0 rfl (lv_at hl 0 rfl) ?_
  refine lv_aload_n hx hb dJ3_append_1 rfl (lv_at hl 0 rfl) ?_
  refine va_get (ci := 16) (v := .int (nI n)) (C := RJ4) (T := TJ4) (N := 4) hx hb hts in_J4 hown hK hP 0 rfl rfl 3 (by decide) (hts _ q809) (fun _ h9 => h9) rfl dJ3_append_2 ?_
  refine lv_iconst (v := nI 1) hx hb dJ3_append_5 (by decide) ?_
  refine lv_iadd hx hb dJ3_append_6 ?_
  rw [nI_add]
  refine cWVP [] (sbC k q v cap n f) (As := [.int (nI (n + 1))]) (ci := 16) ⟨hx, hb, hml, hown, hts⟩ hOK hz hS hA hP hD (mtJ3_ensA l D k Z hOK q v cap n f hlt hc9) (kJ3_ensureCapacityInternal hts (hPv _ _ _ hz _).1 q826 rfl rfl ⟨Nat.le_of_ble_eq_true rfl, Nat.le_of_ble_eq_true rfl⟩) 0 rfl rfl rfl hl.1 rfl (lv_room (Nat.le_of_ble_eq_true rfl)) ⟨(by show 0 + 0 ≤ mbSb n cap; omega), (by show 0 + 0 ≤ msSb n cap; omega)⟩ dJ3_append_7 (fun r_ w_ H locs hq hP hD hS => ?_)
  obtain ⟨rfl, rfl⟩ := hq
  have hP : va_P D zCl (sbC k q v cap n f) _ := hP
  have hD : va_D A (sbC k q v cap n f) := hD
  refine lv_aload_n hx hb dJ3_append_10 rfl (lv_at hl 0 rfl) ?_
  refine cRV (As := []) (ci := 16) ⟨hx, hb, hml, hown, hts⟩ hOK hz hS hP (mtJ3_isLatin1 l D k Z hOK hCs q v cap n f) (kJ3_isLatin1 hts (hts _ q858) q855 rfl rfl ⟨Nat.le_of_ble_eq_true rfl, Nat.le_of_ble_eq_true rfl⟩) 0 rfl rfl rfl hl.1 rfl (lv_room (Nat.le_of_ble_eq_true rfl)) ⟨(by show 0 + 0 ≤ mbSb n cap; omega), (by show 0 + 0 ≤ msSb n cap; omega)⟩ dJ3_append_11 ?_
  refine lv_if_eq (tgt := 45) hx hb dJ3_append_14 (by decide) (fun c1 => absurd c1 (by decide)) (fun _ => ?_)
  refine lv_iload_n hx hb dJ3_append_17 rfl (lv_at hl 1 rfl) ?_
  refine cRS (ws := []) (As := [.int (nI c9)]) ⟨hx, hb, hml, hown, hts⟩ hOK hz hS zP0 (mtJ10_canEncode l D k Z hOK (nI c9) (nI_nlt (a := 255) (by omega) (by omega))) (kJ10_canEncode hts q860 rfl rfl ⟨Nat.le_of_ble_eq_true rfl, Nat.le_of_ble_eq_true rfl⟩) rfl hl.1 rfl (lv_room (Nat.le_of_ble_eq_true rfl)) ⟨(by show 0 + 0 ≤ mbSb n cap; omega), (by show 0 + 0 ≤ msSb n cap; omega)⟩ dJ3_append_18 ?_
  refine lv_if_eq (tgt := 45) hx hb dJ3_append_21 (by decide) (fun c1 => absurd c1 (by decide)) (fun _ => ?_)
  refine lv_aload_n hx hb dJ3_append_24 rfl (lv_at hl 0 rfl) ?_
  refine va_get (ci := 16) (v := .ref v) (C := RJ4) (T := TJ4) (N := 4) hx hb hts in_J4 hown hK hP 0 rfl rfl 0 (by decide) (hts _ q806) (fun _ h9 => h9) rfl dJ3_append_25 ?_
  refine lv_aload_n hx hb dJ3_append_28 rfl (lv_at hl 0 rfl) ?_
  refine lv_dup hx hb dJ3_append_29 rfl ?_
  refine va_get (ci := 16) (v := .int (nI n)) (C := RJ4) (T := TJ4) (N := 4) hx hb hts in_J4 hown hK hP 0 rfl rfl 3 (by decide) (hts _ q809) (fun _ h9 => h9) rfl dJ3_append_30 ?_
  refine lv_dup_x1 hx hb dJ3_append_33 rfl rfl ?_
  refine lv_iconst (v := nI 1) hx hb dJ3_append_34 (by decide) ?_
  refine lv_iadd hx hb dJ3_append_35 ?_
  rw [nI_add]
  refine va_put (ci := 16) (v := .int (nI (n + 1))) (ty := tyJ4 3) (C := RJ4) (T := TJ4) (N := 4) hx hb hts in_J4 tyJ4 tyJ4_ok nmJ4 hown hK hP hD hS 0 rfl rfl 3 (by decide) (hts _ q809) (fun _ h9 => h9) rfl (tyJ4_ok 3 (by decide)) rfl rfl (Nat.le_of_ble_eq_true rfl) dJ3_append_36 (fun H locs hP hD hS => ?_)
  have hP : va_P D zCl (sbC k q v cap (n + 1) f) _ := hP
  have hD : va_D A (sbC k q v cap (n + 1) f) := hD
  refine lv_iload_n hx hb dJ3_append_39 rfl (lv_at hl 1 rfl) ?_
  refine lv_i2b (v := sb_b c9) hx hb dJ3_append_40 rfl ?_
  refine va_bast hx hb hK hP hD hS 1 2 rfl rfl (vp_in_nI (show n < cap by omega) (by omega)) dJ3_append_41 (fun H locs hP hD hS => ?_)
  rw [nI_clamp (show n < 2 ^ 31 by omega), show vp_nar .byte (sb_b c9) = sb_b c9 from pk_vb _] at hP hD
  have hP : va_P D zCl (sbC k q v cap (n + 1) (upd f n (sb_b c9))) _ := hP
  have hD : va_D A (sbC k q v cap (n + 1) (upd f n (sb_b c9))) := hD
  refine lv_goto (tgt := 75) hx hb dJ3_append_42 (by decide) ?_
  refine lv_aload_n hx hb dJ3_append_75 rfl (lv_at hl 0 rfl) ?_
  refine W.widen (k := mbSb n cap) (n := msSb n cap) (by show 0 + 0 ≤ _; omega) (by show 0 + 0 ≤ _; omega) ?_
  have eg : sbGrow n cap = cap := if_pos hlt
  exact retW_a hx hb hr (Or.inl ⟨_, rfl⟩) hlocks hP hD hS ⟨v, (upd f n (sb_b c9)), rfl, ⟨sb_fitU hF (sb_fitB _), (fun j hj => if_neg (by omega)), if_pos rfl⟩, (by rw [eg])⟩ dJ3_append_76
set_option maxRecDepth 100000 in
theorem mtJ3_appG (l : Launch) (D : va_G) (k : Nat → ClassId) (Z : zZ) (hOK : zOK D zCl (zTys k) Z) (hCs : zCs Z) (hPv : zPv Z) (q v n c9 : Nat) (f : Nat → Int32) (hF : sb_Fit f) (hc : c9 < 256) (hc9 : n < 2 ^ 20) : CtW l yJ3_append cJ3_append 2 (some (.object "java/lang/AbstractStringBuilder")) (rSbA n n) Z D zCl (sbC k q v n n f) [.ref q, .int (nI c9)] (fun r' w' => ∃ (v1 : Nat) (f1 : Nat → Int32), r' = some (.ref q) ∧ sbApp n c9 f f1 ∧ w' = sbC k q v1 (sbGrow n n) (n + 1) f1) (mbSb n n) (msSb n n) := by
  refine CtW.of (by decide) (Nat.le_of_ble_eq_true rfl) ?_
  intro p e9 s m args below meth c A hE hA hP hD hS hz ls hl
  obtain ⟨hx, hb, hr, hml, hown, hts, hlocks, hname⟩ := hE
  have hown : s.vm.findClass RJ3 = some m.cls := hown
  have hK := hOK.1 _ _ _ hz
  have hN := hOK.2.1 _ _ _ hz
  have hl : lv_has ls 2 [(0, .ref q), (1, .int (nI c9))] := hl
  refine lv_aload_n hx hb dJ3_append_0 rfl (lv_at hl 0 rfl) ?_
  refine lv_aload_n hx hb dJ3_append_1 rfl (lv_at hl 0 rfl) ?_
  refine va_get (ci := 16) (v := .int (nI n)) (C := RJ4) (T := TJ4) (N := 4) hx hb hts in_J4 hown hK hP 0 rfl rfl 3 (by decide) (hts _ q809) (fun _ h9 => h9) rfl dJ3_append_2 ?_
  refine lv_iconst (v := nI 1) hx hb dJ3_append_5 (by decide) ?_
  refine lv_iadd hx hb dJ3_append_6 ?_
  rw [nI_add]
  have hm1 : mbSb n n = 1 := if_neg (by omega)
  have hm2 : msSb n n = 2 * n + 2 := if_neg (by omega)
  refine cWVP [] (sbC k q v n n f) (As := [.int (nI (n + 1))]) (ci := 16) ⟨hx, hb, hml, hown, hts⟩ hOK hz hS hA hP hD (mtJ3_ensG l D k Z hOK hPv q v n n f hF hc9) (kJ3_ensureCapacityInternal hts (hPv _ _ _ hz _).1 q826 rfl rfl ⟨Nat.le_of_ble_eq_true rfl, Nat.le_of_ble_eq_true rfl⟩) 0 rfl rfl rfl hl.1 rfl (lv_room (Nat.le_of_ble_eq_true rfl)) ⟨(by show 0 + 1 ≤ mbSb n n; omega), (by show 0 + (2 * n + 2) ≤ msSb n n; omega)⟩ dJ3_append_7 (fun r_ w_ H locs hq hP hD hS => ?_)
  obtain ⟨v1, rfl, rfl⟩ := hq
  refine lv_aload_n hx hb dJ3_append_10 rfl (lv_at hl 0 rfl) ?_
  refine cRV (As := []) (ci := 16) ⟨hx, hb, hml, hown, hts⟩ hOK hz hS hP (mtJ3_isLatin1 l D k Z hOK hCs q v1 (2 * n + 2) n (va_cpy f (fun _ => 0) 0 0 n)) (kJ3_isLatin1 hts (hts _ q858) q855 rfl rfl ⟨Nat.le_of_ble_eq_true rfl, Nat.le_of_ble_eq_true rfl⟩) 0 rfl rfl rfl hl.1 rfl (lv_room (Nat.le_of_ble_eq_true rfl)) ⟨(by show 0 + 1 ≤ mbSb n n; omega), (by show 0 + (2 * n + 2) ≤ msSb n n; omega)⟩ dJ3_append_11 ?_
  refine lv_if_eq (tgt := 45) hx hb dJ3_append_14 (by decide) (fun c1 => absurd c1 (by decide)) (fun _ => ?_)
  refine lv_iload_n hx hb dJ3_append_17 rfl (lv_at hl 1 rfl) ?_
  refine cRS (ws := []) (As := [.int (nI c9)]) ⟨hx, hb, hml, hown, hts⟩ hOK hz hS zP0 (mtJ10_canEncode l D k Z hOK (nI c9) (nI_nlt (a := 255) (by omega) (by omega))) (kJ10_canEncode hts q860 rfl rfl ⟨Nat.le_of_ble_eq_true rfl, Nat.le_of_ble_eq_true rfl⟩) rfl hl.1 rfl (lv_room (Nat.le_of_ble_eq_true rfl)) ⟨(by show 0 + 1 ≤ mbSb n n; omega), (by show 0 + (2 * n + 2) ≤ msSb n n; omega)⟩ dJ3_append_18 ?_
  refine lv_if_eq (tgt := 45) hx hb dJ3_append_21 (by decide) (fun c1 => absurd c1 (by decide)) (fun _ => ?_)
  refine lv_aload_n hx hb dJ3_append_24 rfl (lv_at hl 0 rfl) ?_
  refine va_get (ci := 16) (v := .ref v1) (C := RJ4) (T := TJ4) (N := 4) hx hb hts in_J4 hown hK hP 0 rfl rfl 0 (by decide) (hts _ q806) (fun _ h9 => h9) rfl dJ3_append_25 ?_
  refine lv_aload_n hx hb dJ3_append_28 rfl (lv_at hl 0 rfl) ?_
  refine lv_dup hx hb dJ3_append_29 rfl ?_
  refine va_get (ci := 16) (v := .int (nI n)) (C := RJ4) (T := TJ4) (N := 4) hx hb hts in_J4 hown hK hP 0 rfl rfl 3 (by decide) (hts _ q809) (fun _ h9 => h9) rfl dJ3_append_30 ?_
  refine lv_dup_x1 hx hb dJ3_append_33 rfl rfl ?_
  refine lv_iconst (v := nI 1) hx hb dJ3_append_34 (by decide) ?_
  refine lv_iadd hx hb dJ3_append_35 ?_
  rw [nI_add]
  refine va_put (ci := 16) (v := .int (nI (n + 1))) (ty := tyJ4 3) (C := RJ4) (T := TJ4) (N := 4) hx hb hts in_J4 tyJ4 tyJ4_ok nmJ4 hown hK hP hD hS 0 rfl rfl 3 (by decide) (hts _ q809) (fun _ h9 => h9) rfl (tyJ4_ok 3 (by decide)) rfl rfl (Nat.le_of_ble_eq_true rfl) dJ3_append_36 (fun H locs hP hD hS => ?_)
  have hP : va_P D zCl (sbC k q v1 (2 * n + 2) (n + 1) (va_cpy f (fun _ => 0) 0 0 n)) _ := hP
  have hD : va_D A (sbC k q v1 (2 * n + 2) (n + 1) (va_cpy f (fun _ => 0) 0 0 n)) := hD
  refine lv_iload_n hx hb dJ3_append_39 rfl (lv_at hl 1 rfl) ?_
  refine lv_i2b (v := sb_b c9) hx hb dJ3_append_40 rfl ?_
  refine va_bast hx hb hK hP hD hS 1 2 rfl rfl (vp_in_nI (show n < (2 * n + 2) by omega) (by omega)) dJ3_append_41 (fun H locs hP hD hS => ?_)
  rw [nI_clamp (show n < 2 ^ 31 by omega), show vp_nar .byte (sb_b c9) = sb_b c9 from pk_vb _] at hP hD
  have hP : va_P D zCl (sbC k q v1 (2 * n + 2) (n + 1) (upd (va_cpy f (fun _ => 0) 0 0 n) n (sb_b c9))) _ := hP
  have hD : va_D A (sbC k q v1 (2 * n + 2) (n + 1) (upd (va_cpy f (fun _ => 0) 0 0 n) n (sb_b c9))) := hD
  refine lv_goto (tgt := 75) hx hb dJ3_append_42 (by decide) ?_
  refine lv_aload_n hx hb dJ3_append_75 rfl (lv_at hl 0 rfl) ?_
  refine W.widen (k := mbSb n n) (n := msSb n n) (by show 0 + 1 ≤ _; omega) (by show 0 + (2 * n + 2) ≤ _; omega) ?_
  have eg : sbGrow n n = 2 * n + 2 := if_neg (by omega)
  exact retW_a hx hb hr (Or.inl ⟨_, rfl⟩) hlocks hP hD hS ⟨v1, (upd (va_cpy f (fun _ => 0) 0 0 n) n (sb_b c9)), rfl, ⟨sb_fitU (sb_fitC hF sb_fit0) (sb_fitB _), (fun j hj => (if_neg (by omega)).trans (sb_cpy0 hj)), if_pos rfl⟩, (by rw [eg])⟩ dJ3_append_76
theorem mtJ3_append (l : Launch) (D : va_G) (k : Nat → ClassId) (Z : zZ) (hOK : zOK D zCl (zTys k) Z) (hCs : zCs Z) (hPv : zPv Z) (q v cap n c9 : Nat) (f : Nat → Int32) (hF : sb_Fit f) (hc : c9 < 256) (hc9 : cap < 2 ^ 20) (hle : n ≤ cap) : CtW l yJ3_append cJ3_append 2 (some (.object "java/lang/AbstractStringBuilder")) (rSbA n cap) Z D zCl (sbC k q v cap n f) [.ref q, .int (nI c9)] (fun r' w' => ∃ (v1 : Nat) (f1 : Nat → Int32), r' = some (.ref q) ∧ sbApp n c9 f f1 ∧ w' = sbC k q v1 (sbGrow n cap) (n + 1) f1) (mbSb n cap) (msSb n cap) := by
  rcases Nat.lt_or_ge n cap with h | h
  · exact mtJ3_appA l D k Z hOK hCs hPv q v cap n c9 f hF hc hc9 h
  · obtain rfl : n = cap := by omega
    exact mtJ3_appG l D k Z hOK hCs hPv q v n c9 f hF hc hc9
def rSbB (n cap : Nat) : Room := rLs 5 (mbSb n cap) (msSb n cap) 210
theorem kJ4_append {R : Room} {s : State} {args : Array Value} {own : String} {idx mc ms : Nat} {rm : Room} (hts : ∀ w ∈ lw_all, w.before args s = true) (hl : Cond.methodLink own idx yJ4_append ∈ lw_all) (hrc : rm.cells = mc) (hrs : rm.slots = ms) (hR : rm.frames + 1 ≤ R.frames ∧ 8 + (2 + 11) + rm.locals ≤ R.locals) : CallW R s args own RJ4 idx yJ4_append cJ4_append 2 (some (.object "java/lang/StringBuilder")) (ws_ yJ4_append cJ4_append 2 (some (.object "java/lang/StringBuilder"))) rm mc ms 1 :=
  cwV 1 hts (lw_V hl q820 q821 q118 q822) rfl hrc hrs (by decide +kernel) hR
set_option maxRecDepth 100000 in
theorem mtJ4_append (l : Launch) (D : va_G) (k : Nat → ClassId) (Z : zZ) (hOK : zOK D zCl (zTys k) Z) (hCs : zCs Z) (hPv : zPv Z) (q v cap n c9 : Nat) (f : Nat → Int32) (hF : sb_Fit f) (hc : c9 < 256) (hc9 : cap < 2 ^ 20) (hle : n ≤ cap) : CtW l yJ4_append cJ4_append 2 (some (.object "java/lang/StringBuilder")) (rSbB n cap) Z D zCl (sbC k q v cap n f) [.ref q, .int (nI c9)] (fun r' w' => ∃ (v1 : Nat) (f1 : Nat → Int32), r' = some (.ref q) ∧ sbApp n c9 f f1 ∧ w' = sbC k q v1 (sbGrow n cap) (n + 1) f1) (mbSb n cap) (msSb n cap) := by
  refine CtW.of (by decide) (Nat.le_of_ble_eq_true rfl) ?_
  intro p e9 s m args below meth c A hE hA hP hD hS hz ls hl
  obtain ⟨hx, hb, hr, hml, hown, hts, hlocks, hname⟩ := hE
  have hown : s.vm.findClass RJ4 = some m.cls := hown
  have hK := hOK.1 _ _ _ hz
  have hN := hOK.2.1 _ _ _ hz
  have hl : lv_has ls 2 [(0, .ref q), (1, .int (nI c9))] := hl
  refine lv_aload_n hx hb dJ4_append_0 rfl (lv_at hl 0 rfl) ?_
  refine lv_iload_n hx hb dJ4_append_1 rfl (lv_at hl 1 rfl) ?_
  have hP : va_P D zCl ([] ++ (sbC k q v cap n f ++ [])) _ := hP
  have hD : va_D A ([] ++ (sbC k q v cap n f ++ [])) := hD
  refine cWSU [] (sbC k q v cap n f) [] (As := [.int (nI c9)]) (ci := 16) ⟨hx, hb, hml, hown, hts⟩ hOK hz hS hA hP hD (mtJ3_append l D k Z hOK hCs hPv q v cap n c9 f hF hc hc9 hle) (kJ3_appendS hts rfl rfl ⟨Nat.le_of_ble_eq_true rfl, Nat.le_of_ble_eq_true rfl⟩) 0 rfl rfl rfl hl.1 rfl (lv_room (Nat.le_of_ble_eq_true rfl)) ⟨(by show 0 + mbSb n cap ≤ mbSb n cap; omega), (by show 0 + msSb n cap ≤ msSb n cap; omega)⟩ dJ4_append_2 (fun r_ w_ H locs hq hP hD hS => ?_)
  obtain ⟨v1, f1, rfl, hap, rfl⟩ := hq
  have hP : va_P D zCl (sbC k q v1 (sbGrow n cap) (n + 1) f1) _ := hP
  have hD : va_D A (sbC k q v1 (sbGrow n cap) (n + 1) f1) := hD
  refine lv_pop hx hb dJ4_append_5 rfl ?_
  refine lv_aload_n hx hb dJ4_append_6 rfl (lv_at hl 0 rfl) ?_
  refine W.widen (k := mbSb n cap) (n := msSb n cap) (by omega) (by omega) ?_
  exact retW_a hx hb hr (Or.inl ⟨_, rfl⟩) hlocks hP hD hS ⟨v1, f1, rfl, hap, rfl⟩ dJ4_append_7
