/-! THE JDK's String: a string that nobody changes: length, charAt, equals -/
def sS (a v n : Nat) (f : Nat → Int32) : zZ := fun A U H => va_O "java/lang/String" a A U H ∧ va_OF "java/lang/String" "coder" "B" (.int 0) a A U H ∧ va_OF "java/lang/String" "value" "[B" (.ref v) a A U H ∧ va_T .byte v n (fun j => .int (f j)) A U H
def zA (Z1 Z2 : zZ) : zZ := fun A U H => Z1 A U H ∧ Z2 A U H
def zMv (Z : zZ) : Prop := (∀ A s U H, s.vm.Alike U.vm → Z A s H → Z A U H) ∧ (∀ A U (H H1 : Heap), (∀ q : Nat, q < H.size → ¬ A q → H1[q]? = H[q]?) → Z A U H → Z A U H1) ∧ (∀ (A B : Nat → Prop) U H, (∀ q, B q → A q) → Z A U H → Z B U H)
theorem sS_mv {a v n : Nat} {f : Nat → Int32} : zMv (sS a v n f) :=
  ⟨fun A s U H hvm h => ⟨va_O.moved hvm h.1, va_OF.moved hvm h.2.1, va_OF.moved hvm h.2.2.1, va_T.moved hvm h.2.2.2⟩, fun A U H H1 hq h => ⟨h.1.kept hq, h.2.1.kept hq, h.2.2.1.kept hq, h.2.2.2.kept hq⟩, fun A B U H hAB h => ⟨h.1.narrow hAB, h.2.1.narrow hAB, h.2.2.1.narrow hAB, h.2.2.2.narrow hAB⟩⟩
theorem zA_ok {D : va_G} {cl : List vw_C} {tys : List (ClassId × FieldType)} {Z Z2 : zZ} (h : zOK D cl tys Z) (h2 : zMv Z2) : zOK D cl tys (zA Z Z2) :=
  ⟨fun A U H q => h.1 A U H q.1, fun A U H q => h.2.1 A U H q.1, fun A s U H hW q => ⟨h.2.2.1 A s U H hW q.1, h2.1 A s U H hW.alike q.2⟩, fun A U H g mk a q => ⟨h.2.2.2.1 A U H g mk a q.1, h2.1 A U (U.calling g mk a) H (Vm.Alike.refl U.vm) q.2⟩, fun A U H H1 hq q => ⟨h.2.2.2.2.1 A U H H1 hq q.1, h2.2.1 A U H H1 hq q.2⟩, fun A B U H hAB q => ⟨h.2.2.2.2.2 A B U H hAB q.1, h2.2.2 A B U H hAB q.2⟩⟩
theorem CtR.mono {l : Launch} {y : MethodName} {cc : ByteArray} {mL : Nat} {ret : Option FieldType} {rm : Room} {Z Z' : zZ} {D : va_G} {cl : List vw_C} {ws : va_W} {av : List Value} {r : Option Value} (h : CtR l y cc mL ret rm Z' D cl ws av r) (hz : ∀ A U H, Z A U H → Z' A U H) : CtR l y cc mL ret rm Z D cl ws av r :=
  by
  unfold CtR Met at h ⊢
  exact MetFree.mono h (fun _ _ q => ⟨q.1, q.2.1, hz _ _ _ q.2.2⟩) (fun _ _ _ _ _ q => q) (fun _ _ _ _ _ q => q)
def zCs (Z : zZ) : Prop := ∀ A U H, Z A U H → va_Z "java/lang/String" "COMPACT_STRINGS" "Z" (.int 1) A U H
def zFm (Z : zZ) : Prop := ∀ A U H, Z A U H → va_Zq "jdk/internal/util/Preconditions" "SIOOBE_FORMATTER" "Ljava/util/function/BiFunction;" A U H
theorem retR_t {p : Program} {l : Launch} {e : Env} {R : Room} {s : State} {m : MethodId} {args : Array Value} {below : List Frame} {meth : Method} {c : Code} {cc : ByteArray} {pc : Nat} {ls : Array Slot} {v : Int32} {r : Option Value} {ty : FieldType} (hx : p.tables.exec = Jvm.exec) (hb : c.code = cc) (hr : meth.sig.returnType = some ty) (hn : narrow ty (.int v) = .int v) (hlocks : meth.locks = false) (hp : r = some (.int v)) (hdg : decode cc pc = .ok (.ireturn, 1)) : W p l e R s m args below meth c s.heap [] 0 0 (MQ below (QRr r) args s 0 0 (fun _ => False)) (F0 m pc ls [.int v]) :=
  W.zret hx hb hr hn (fun t ht _ => ⟨by rw [hp], ht⟩) (fun _ h => nomatch h) hdg hlocks
def rJ5_coder : Room := { frames := 0, cells := 0, slots := 0, locals := 0 }
theorem kJ5_coder {R : Room} {s : State} {args : Array Value} {own : String} {idx mc ms : Nat} {rm : Room} (hts : ∀ w ∈ lw_all, w.before args s = true) (hl : Cond.methodLink own idx yJ5_coder ∈ lw_all) (hrc : rm.cells = mc) (hrs : rm.slots = ms) (hR : rm.frames + 1 ≤ R.frames ∧ 8 + (1 + 11) + rm.locals ≤ R.locals) : CallW R s args own RJ5 idx yJ5_coder cJ5_coder 1 (some .byte) (ws_ yJ5_coder cJ5_coder 1 (some .byte)) rm mc ms 0 :=
  cwV 0 hts (lw_V hl q1042 q1043 q119 q1044) rfl hrc hrs (by decide +kernel) hR
theorem kJ5_isLatin1 {R : Room} {s : State} {args : Array Value} {own : String} {idx mc ms : Nat} {rm : Room} (hts : ∀ w ∈ lw_all, w.before args s = true) (hl : Cond.methodLink own idx yJ5_isLatin1 ∈ lw_all) (hrc : rm.cells = mc) (hrs : rm.slots = ms) (hR : rm.frames + 1 ≤ R.frames ∧ 8 + (1 + 11) + rm.locals ≤ R.locals) : CallW R s args own RJ5 idx yJ5_isLatin1 cJ5_isLatin1 1 (some .boolean) (ws_ yJ5_isLatin1 cJ5_isLatin1 1 (some .boolean)) rm mc ms 0 :=
  cwV 0 hts (lw_V hl q1146 q1147 q119 q1148) rfl hrc hrs (by decide +kernel) hR
theorem kJ5_length {R : Room} {s : State} {args : Array Value} {own : String} {idx mc ms : Nat} {rm : Room} (hts : ∀ w ∈ lw_all, w.before args s = true) (hl : Cond.methodLink own idx yJ5_length ∈ lw_all) (hrc : rm.cells = mc) (hrs : rm.slots = ms) (hR : rm.frames + 1 ≤ R.frames ∧ 8 + (1 + 11) + rm.locals ≤ R.locals) : CallW R s args own RJ5 idx yJ5_length cJ5_length 1 (some .int) (ws_ yJ5_length cJ5_length 1 (some .int)) rm mc ms 0 :=
  cwV 0 hts (lw_V hl q1038 q1039 q119 q1040) rfl hrc hrs (by decide +kernel) hR
theorem kJ5_charAt {R : Room} {s : State} {args : Array Value} {own : String} {idx mc ms : Nat} {rm : Room} (hts : ∀ w ∈ lw_all, w.before args s = true) (hl : Cond.methodLink own idx yJ5_charAt ∈ lw_all) (hrc : rm.cells = mc) (hrs : rm.slots = ms) (hR : rm.frames + 1 ≤ R.frames ∧ 8 + (2 + 11) + rm.locals ≤ R.locals) : CallW R s args own RJ5 idx yJ5_charAt cJ5_charAt 2 (some .char) (ws_ yJ5_charAt cJ5_charAt 2 (some .char)) rm mc ms 1 :=
  cwV 1 hts (lw_V hl q2023 q2024 q119 q2025) rfl hrc hrs (by decide +kernel) hR
theorem kJ5_checkIndex {R : Room} {s : State} {args : Array Value} {own : String} {idx mc ms : Nat} {rm : Room} (hts : ∀ w ∈ lw_all, w.before args s = true) (hl : Cond.methodLink own idx yJ5_checkIndex ∈ lw_all) (hrc : rm.cells = mc) (hrs : rm.slots = ms) (hR : rm.frames + 1 ≤ R.frames ∧ 8 + (2 + 11) + rm.locals ≤ R.locals) : CallB R s args own idx yJ5_checkIndex cJ5_checkIndex 2 none (ws_ yJ5_checkIndex cJ5_checkIndex 2 none) rm mc ms 2 ∧ (Cond.static yJ5_checkIndex).before args s = true :=
  va_cwS 2 hts (lw_S hl q903 q119 q904) rfl hrc hrs (by decide +kernel) hR
theorem kJ10_charAt {R : Room} {s : State} {args : Array Value} {own : String} {idx mc ms : Nat} {rm : Room} (hts : ∀ w ∈ lw_all, w.before args s = true) (hl : Cond.methodLink own idx yJ10_charAt ∈ lw_all) (hrc : rm.cells = mc) (hrs : rm.slots = ms) (hR : rm.frames + 1 ≤ R.frames ∧ 8 + (2 + 11) + rm.locals ≤ R.locals) : CallB R s args own idx yJ10_charAt cJ10_charAt 2 (some .char) (ws_ yJ10_charAt cJ10_charAt 2 (some .char)) rm mc ms 2 ∧ (Cond.static yJ10_charAt).before args s = true :=
  va_cwS 2 hts (lw_S hl q2027 q124 q2028) rfl hrc hrs (by decide +kernel) hR
theorem kJ11_checkIndex {R : Room} {s : State} {args : Array Value} {own : String} {idx mc ms : Nat} {rm : Room} (hts : ∀ w ∈ lw_all, w.before args s = true) (hl : Cond.methodLink own idx yJ11_checkIndex ∈ lw_all) (hrc : rm.cells = mc) (hrs : rm.slots = ms) (hR : rm.frames + 1 ≤ R.frames ∧ 8 + (3 + 11) + rm.locals ≤ R.locals) : CallB R s args own idx yJ11_checkIndex cJ11_checkIndex 3 (some .int) (ws_ yJ11_checkIndex cJ11_checkIndex 3 (some .int)) rm mc ms 3 ∧ (Cond.static yJ11_checkIndex).before args s = true :=
  va_cwS 3 hts (lw_S hl q478 q125 q479) rfl hrc hrs (by decide +kernel) hR
set_option maxRecDepth 100000 in
theorem mtJ5_coder (l : Launch) (D : va_G) {tys : List (ClassId × FieldType)} (Z : zZ) (hOK : zOK D zCl tys Z) (hCs : zCs Z) (w v n : Nat) (f : Nat → Int32) : CtR l yJ5_coder cJ5_coder 1 (some .byte) rJ5_coder (zA Z (sS w v n f)) D zCl [] [.ref w] (some (.int 0)) := by
  refine CtR.of (by decide) (Nat.le_of_ble_eq_true rfl) ?_
  intro p e s m args below meth c hE hP hz ls hl
  obtain ⟨hx, hb, hr, hml, hown, hts, hlocks, hname⟩ := hE
  have hown : s.vm.findClass RJ5 = some m.cls := hown
  have hl : lv_has ls 1 [(0, .ref w)] := hl
  refine va_gets hx hb (hCs _ _ _ hz.1) va_S.rf hown (hts _ q1045) (fun _ h9 => h9) dJ5_coder_0 ?_
  refine lv_if_eq (tgt := 13) hx hb dJ5_coder_3 (by decide) (fun c_1 => absurd c_1 (by decide)) (fun _ => ?_)
  refine lv_aload_n hx hb dJ5_coder_6 rfl (lv_at hl 0 rfl) ?_
  refine vk_getf hx hb hz.2.2.1 va_S.rf hown (hts _ q1101) (fun _ h9 => h9) dJ5_coder_7 ?_
  refine lv_goto (tgt := 14) hx hb dJ5_coder_10 (by decide) ?_
  exact retR_t hx hb hr rfl hlocks rfl dJ5_coder_14
set_option maxRecDepth 100000 in
theorem mtJ5_isLatin1 (l : Launch) (D : va_G) {tys : List (ClassId × FieldType)} (Z : zZ) (hOK : zOK D zCl tys Z) (hCs : zCs Z) (w v n : Nat) (f : Nat → Int32) : CtR l yJ5_isLatin1 cJ5_isLatin1 1 (some .boolean) rJ5_coder (zA Z (sS w v n f)) D zCl [] [.ref w] (some (.int 1)) := by
  refine CtR.of (by decide) (Nat.le_of_ble_eq_true rfl) ?_
  intro p e s m args below meth c hE hP hz ls hl
  obtain ⟨hx, hb, hr, hml, hown, hts, hlocks, hname⟩ := hE
  have hown : s.vm.findClass RJ5 = some m.cls := hown
  have hl : lv_has ls 1 [(0, .ref w)] := hl
  refine va_gets hx hb (hCs _ _ _ hz.1) va_S.rf hown (hts _ q1045) (fun _ h9 => h9) dJ5_isLatin1_0 ?_
  refine lv_if_eq (tgt := 17) hx hb dJ5_isLatin1_3 (by decide) (fun c_1 => absurd c_1 (by decide)) (fun _ => ?_)
  refine lv_aload_n hx hb dJ5_isLatin1_6 rfl (lv_at hl 0 rfl) ?_
  refine vk_getf hx hb hz.2.2.1 va_S.rf hown (hts _ q1101) (fun _ h9 => h9) dJ5_isLatin1_7 ?_
  refine lv_if_ne (tgt := 17) hx hb dJ5_isLatin1_10 (by decide) (fun c_1 => absurd rfl c_1) (fun _ => ?_)
  refine lv_iconst (v := (1 : Int32)) hx hb dJ5_isLatin1_13 (by decide) ?_
  refine lv_goto (tgt := 18) hx hb dJ5_isLatin1_14 (by decide) ?_
  exact retR_t hx hb hr rfl hlocks rfl dJ5_isLatin1_18
def rJ5_length : Room := { frames := 1, cells := 0, slots := 0, locals := 20 }
theorem sS_recv {a v n : Nat} {f : Nat → Int32} {A : Nat → Prop} {s : State} {H : Heap} (h : sS a v n f A s H) : ∃ cell : Cell, H[a]? = some cell ∧ cell.vm.isStatics = false ∧ s.vm.findClass "java/lang/String" = some cell.cls := by
  obtain ⟨cell, h1, h2, h3, -⟩ := h.1
  exact ⟨cell, h1, h2, h3⟩
set_option maxRecDepth 100000 in
theorem mtJ5_lengthS (l : Launch) (D : va_G) {tys : List (ClassId × FieldType)} (Z : zZ) (hOK : zOK D zCl tys Z) (hCs : zCs Z) (w v n : Nat) (f : Nat → Int32) : CtR l yJ5_length cJ5_length 1 (some .int) rJ5_length (zA Z (sS w v n f)) D zCl [] [.ref w] (some (.int (nI n))) := by
  refine CtR.of (by decide) (Nat.le_of_ble_eq_true rfl) ?_
  intro p e s m args below meth c hE hP hz ls hl
  obtain ⟨hx, hb, hr, hml, hown, hts, hlocks, hname⟩ := hE
  have hown : s.vm.findClass RJ5 = some m.cls := hown
  have hl : lv_has ls 1 [(0, .ref w)] := hl
  refine lv_aload_n hx hb dJ5_length_0 rfl (lv_at hl 0 rfl) ?_
  refine vk_getf hx hb hz.2.2.2.1 va_S.rf hown (hts _ q1100) (fun _ h9 => h9) dJ5_length_1 ?_
  refine va_tlen (v := nI n) hx hb hz.2.2.2.2 va_S.rf rfl dJ5_length_4 ?_
  refine lv_aload_n hx hb dJ5_length_5 rfl (lv_at hl 0 rfl) ?_
  refine cRVg (ws := []) (As := []) ⟨hx, hb, hml, hown, hts⟩ (zA_ok hOK sS_mv) hz va_S.rf zP0 (mtJ5_coder l D Z hOK hCs w v n f) (kJ5_coder hts q1041 rfl rfl ⟨Nat.le_of_ble_eq_true rfl, Nat.le_of_ble_eq_true rfl⟩) (sS_recv hz.2) rfl hl.1 rfl (lv_room (Nat.le_of_ble_eq_true rfl)) ⟨Nat.le_of_ble_eq_true rfl, Nat.le_of_ble_eq_true rfl⟩ dJ5_length_6 ?_
  refine lv_ishr hx hb dJ5_length_9 ?_
  refine W.eq (g2 := F0 m 10 ls [.int (nI n)]) (by show F0 m 10 ls [.int (nI n >>> ((0 : Int32) &&& 31))] = _; rw [sb_shr0]) ?_
  exact retR_i hx hb hr hlocks rfl dJ5_length_10
theorem mtJ5_length (l : Launch) (D : va_G) {tys : List (ClassId × FieldType)} (Z : zZ) (hOK : zOK D zCl tys Z) {adK adV : Nat → Nat} (hStr : zStr Z adK adV) (i : Nat) (hi : i < stN) : CtR l yJ5_length cJ5_length 1 (some .int) rJ5_length Z D zCl [] [.ref (adK i)] (some (.int (nI (stL i)))) :=
  (mtJ5_lengthS l D Z hOK (fun A U H h => (hStr A U H h).2.2.1) (adK i) (adV i) (stL i) (fun j => stC i j)).mono (fun A U H h => ⟨h, (hStr A U H h).1.1 i hi⟩)
/-! charAt -/
def rJ11_checkIndex : Room := { frames := 0, cells := 0, slots := 0, locals := 0 }
def rJ5_checkIndex : Room := { frames := 1, cells := 0, slots := 0, locals := 22 }
def rJ10_charAt : Room := { frames := 2, cells := 0, slots := 0, locals := 43 }
def rJ5_charAt : Room := { frames := 3, cells := 0, slots := 0, locals := 64 }
set_option maxRecDepth 100000 in
theorem mtJ11_checkIndex (l : Launch) (D : va_G) {tys : List (ClassId × FieldType)} (Z : zZ) (hOK : zOK D zCl tys Z) (x y : Int32) (w : Value) (hw : w.category = 1) (h0 : ¬ x < 0) (h1 : x < y) : CtR l yJ11_checkIndex cJ11_checkIndex 3 (some .int) rJ11_checkIndex Z D zCl [] [.int x, .int y, w] (some (.int x)) := by
  refine CtR.of (by decide) (by cases w <;> first | (exact Nat.le_of_ble_eq_true rfl) | (simp [Value.category] at hw)) ?_
  intro p e s m args below meth c hE hP hz ls hl
  obtain ⟨hx, hb, hr, hml, hown, hts, hlocks, hname⟩ := hE
  have hl : lv_has ls 3 [(0, .int x), (1, .int y), (2, w)] := hl
  refine lv_iload_n hx hb dJ11_checkIndex_0 rfl (lv_at hl 0 rfl) ?_
  refine lv_if_lt (tgt := 9) hx hb dJ11_checkIndex_1 (by decide) (fun c_1 => absurd c_1 h0) (fun _ => ?_)
  refine lv_iload_n hx hb dJ11_checkIndex_4 rfl (lv_at hl 0 rfl) ?_
  refine lv_iload_n hx hb dJ11_checkIndex_5 rfl (lv_at hl 1 rfl) ?_
  refine lv_icmp_lt (tgt := 16) hx hb dJ11_checkIndex_6 (by decide) (fun _ => ?_) (fun c_1 => absurd h1 c_1)
  refine lv_iload_n hx hb dJ11_checkIndex_16 rfl (lv_at hl 0 rfl) ?_
  exact retR_i hx hb hr hlocks rfl dJ11_checkIndex_17
set_option maxRecDepth 100000 in
theorem mtJ5_checkIndex (l : Launch) (D : va_G) {tys : List (ClassId × FieldType)} (Z : zZ) (hOK : zOK D zCl tys Z) (hFm : zFm Z) (x y : Int32) (h0 : ¬ x < 0) (h1 : x < y) : CtR l yJ5_checkIndex cJ5_checkIndex 2 none rJ5_checkIndex Z D zCl [] [.int x, .int y] none := by
  refine CtR.of (by decide) (Nat.le_of_ble_eq_true rfl) ?_
  intro p e s m args below meth c hE hP hz ls hl
  obtain ⟨hx, hb, hr, hml, hown, hts, hlocks, hname⟩ := hE
  have hown : s.vm.findClass RJ5 = some m.cls := hown
  have hl : lv_has ls 2 [(0, .int x), (1, .int y)] := hl
  refine lv_iload_n hx hb dJ5_checkIndex_0 rfl (lv_at hl 0 rfl) ?_
  refine lv_iload_n hx hb dJ5_checkIndex_1 rfl (lv_at hl 1 rfl) ?_
  obtain ⟨w, hw, hZw⟩ : ∃ w : Value, w.category = 1 ∧ va_Z "jdk/internal/util/Preconditions" "SIOOBE_FORMATTER" "Ljava/util/function/BiFunction;" w (fun _ => False) s s.heap := by
    rcases hFm _ _ _ hz with h | ⟨t, h⟩
    · exact ⟨_, rfl, h⟩
    · exact ⟨_, rfl, h⟩
  refine va_gets hx hb hZw va_S.rf hown (hts _ q882) (fun _ h9 => h9) dJ5_checkIndex_2 ?_
  refine cRS (ws := []) (As := [.int x, .int y, w]) ⟨hx, hb, hml, hown, hts⟩ hOK hz va_S.rf zP0 (mtJ11_checkIndex l D Z hOK x y w hw h0 h1) (kJ11_checkIndex hts q905 rfl rfl ⟨Nat.le_of_ble_eq_true rfl, Nat.le_of_ble_eq_true rfl⟩) rfl hl.1 rfl (lv_room (Nat.le_of_ble_eq_true rfl)) ⟨Nat.le_of_ble_eq_true rfl, Nat.le_of_ble_eq_true rfl⟩ dJ5_checkIndex_5 ?_
  refine lv_pop hx hb dJ5_checkIndex_8 rfl ?_
  exact retR_v hx hb hr hlocks rfl dJ5_checkIndex_9
theorem ch_nar (x : Int32) : narrow .char (.int (x.toUInt32 % 65536).toInt32) = .int (x.toUInt32 % 65536).toInt32 := pk_nc x
set_option maxRecDepth 100000 in
theorem mtJ10_charAt (l : Launch) (D : va_G) {tys : List (ClassId × FieldType)} (Z : zZ) (hOK : zOK D zCl tys Z) (hFm : zFm Z) (w v n : Nat) (f : Nat → Int32) (hn : n < 2 ^ 31) (x : Int32) (hin : vp_in x n) : CtR l yJ10_charAt cJ10_charAt 2 (some .char) rJ10_charAt (zA Z (sS w v n f)) D zCl [] [.ref v, .int x] (some (.int ((f x.toNatClampNeg &&& 255).toUInt32 % 65536).toInt32)) := by
  refine CtR.of (by decide) (Nat.le_of_ble_eq_true rfl) ?_
  intro p e s m args below meth c hE hP hz ls hl
  obtain ⟨hx, hb, hr, hml, hown, hts, hlocks, hname⟩ := hE
  have hown : s.vm.findClass RJ10 = some m.cls := hown
  have hl : lv_has ls 2 [(0, .ref v), (1, .int x)] := hl
  obtain ⟨j, hj, rfl⟩ := vp_in_of hin hn
  refine lv_iload_n hx hb dJ10_charAt_0 rfl (lv_at hl 1 rfl) ?_
  refine lv_aload_n hx hb dJ10_charAt_1 rfl (lv_at hl 0 rfl) ?_
  refine va_tlen (v := nI n) hx hb hz.2.2.2.2 va_S.rf rfl dJ10_charAt_2 ?_
  refine cRS (ws := []) (As := [.int (nI j), .int (nI n)]) ⟨hx, hb, hml, hown, hts⟩ (zA_ok hOK sS_mv) hz va_S.rf zP0 ((mtJ5_checkIndex l D Z hOK hFm (nI j) (nI n) (nI_pos (by omega)) (nI_lt hj hn)).mono (fun _ _ _ h => h.1)) (kJ5_checkIndex hts q2029 rfl rfl ⟨Nat.le_of_ble_eq_true rfl, Nat.le_of_ble_eq_true rfl⟩) rfl hl.1 rfl (lv_room (Nat.le_of_ble_eq_true rfl)) ⟨Nat.le_of_ble_eq_true rfl, Nat.le_of_ble_eq_true rfl⟩ dJ10_charAt_3 ?_
  refine lv_aload_n hx hb dJ10_charAt_6 rfl (lv_at hl 0 rfl) ?_
  refine lv_iload_n hx hb dJ10_charAt_7 rfl (lv_at hl 1 rfl) ?_
  refine va_tb (v := .int (f (nI j).toNatClampNeg)) hx hb hz.2.2.2.2 va_S.rf hin rfl dJ10_charAt_8 ?_
  refine lv_sipush (v := (255 : Int32)) hx hb dJ10_charAt_9 (by decide) ?_
  refine lv_iand hx hb dJ10_charAt_12 ?_
  refine lv_i2c hx hb dJ10_charAt_13 rfl ?_
  exact retR_t hx hb hr (ch_nar _) hlocks rfl dJ10_charAt_14
set_option maxRecDepth 100000 in
theorem mtJ5_charAtS (l : Launch) (D : va_G) {tys : List (ClassId × FieldType)} (Z : zZ) (hOK : zOK D zCl tys Z) (hCs : zCs Z) (hFm : zFm Z) (w v n : Nat) (f : Nat → Int32) (hn : n < 2 ^ 31) (x : Int32) (hin : vp_in x n) : CtR l yJ5_charAt cJ5_charAt 2 (some .char) rJ5_charAt (zA Z (sS w v n f)) D zCl [] [.ref w, .int x] (some (.int ((f x.toNatClampNeg &&& 255).toUInt32 % 65536).toInt32)) := by
  refine CtR.of (by decide) (Nat.le_of_ble_eq_true rfl) ?_
  intro p e s m args below meth c hE hP hz ls hl
  obtain ⟨hx, hb, hr, hml, hown, hts, hlocks, hname⟩ := hE
  have hown : s.vm.findClass RJ5 = some m.cls := hown
  have hl : lv_has ls 2 [(0, .ref w), (1, .int x)] := hl
  refine lv_aload_n hx hb dJ5_charAt_0 rfl (lv_at hl 0 rfl) ?_
  refine cRVg (ws := []) (As := []) ⟨hx, hb, hml, hown, hts⟩ (zA_ok hOK sS_mv) hz va_S.rf zP0 (mtJ5_isLatin1 l D Z hOK hCs w v n f) (kJ5_isLatin1 hts q1145 rfl rfl ⟨Nat.le_of_ble_eq_true rfl, Nat.le_of_ble_eq_true rfl⟩) (sS_recv hz.2) rfl hl.1 rfl (lv_room (Nat.le_of_ble_eq_true rfl)) ⟨Nat.le_of_ble_eq_true rfl, Nat.le_of_ble_eq_true rfl⟩ dJ5_charAt_1 ?_
  refine lv_if_eq (tgt := 16) hx hb dJ5_charAt_4 (by decide) (fun c_1 => absurd c_1 (by decide)) (fun _ => ?_)
  refine lv_aload_n hx hb dJ5_charAt_7 rfl (lv_at hl 0 rfl) ?_
  refine vk_getf hx hb hz.2.2.2.1 va_S.rf hown (hts _ q1100) (fun _ h9 => h9) dJ5_charAt_8 ?_
  refine lv_iload_n hx hb dJ5_charAt_11 rfl (lv_at hl 1 rfl) ?_
  refine cRS (ws := []) (As := [.ref v, .int x]) ⟨hx, hb, hml, hown, hts⟩ (zA_ok hOK sS_mv) hz va_S.rf zP0 (mtJ10_charAt l D Z hOK hFm w v n f hn x hin) (kJ10_charAt hts q2026 rfl rfl ⟨Nat.le_of_ble_eq_true rfl, Nat.le_of_ble_eq_true rfl⟩) rfl hl.1 rfl (lv_room (Nat.le_of_ble_eq_true rfl)) ⟨Nat.le_of_ble_eq_true rfl, Nat.le_of_ble_eq_true rfl⟩ dJ5_charAt_12 ?_
  exact retR_t hx hb hr (ch_nar _) hlocks rfl dJ5_charAt_15
theorem stN_c : ∀ i, i < stN → ∀ j, j < stL i → ((stC i j &&& 255).toUInt32 % 65536).toInt32 = stC i j := by decide +kernel
theorem stN_l : ∀ i, i < stN → stL i < 2 ^ 31 := by decide +kernel
theorem mtJ5_charAt (l : Launch) (D : va_G) {tys : List (ClassId × FieldType)} (Z : zZ) (hOK : zOK D zCl tys Z) {adK adV : Nat → Nat} (hStr : zStr Z adK adV) (i : Nat) (hi : i < stN) (x : Int32) (hin : vp_in x (stL i)) : CtR l yJ5_charAt cJ5_charAt 2 (some .char) rJ5_charAt Z D zCl [] [.ref (adK i), .int x] (some (.int (stC i x.toNatClampNeg))) := by
  have hlt : x.toNatClampNeg < stL i := Nat.not_le.mp fun q => hin (Or.inr q)
  have h := (mtJ5_charAtS l D Z hOK (fun A U H h => (hStr A U H h).2.2.1) (fun A U H h => (hStr A U H h).2.2.2) (adK i) (adV i) (stL i) (fun j => stC i j) (stN_l i hi) x hin).mono (fun A U H h => ⟨h, (hStr A U H h).1.1 i hi⟩)
  rw [stN_c i hi _ hlt] at h
  exact h
