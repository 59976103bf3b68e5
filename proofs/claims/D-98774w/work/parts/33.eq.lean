/-! String.equals: a string that was made (cells) and one that nobody changes -/
def eqS (n : Nat) (f : Nat → Int32) (n' : Nat) (f' : Nat → Int32) : Bool := decide (n = n' ∧ ∀ j, j < n → f j = f' j)
theorem eqS_t {n n' : Nat} {f f' : Nat → Int32} (h : n = n' ∧ ∀ j, j < n → f j = f' j) : eqS n f n' f' = true := by unfold eqS; exact decide_eq_true h
theorem eqS_f {n n' : Nat} {f f' : Nat → Int32} (h : ¬ (n = n' ∧ ∀ j, j < n → f j = f' j)) : eqS n f n' f' = false := by unfold eqS; exact decide_eq_false h
theorem nI_inj {a b : Nat} (ha : a < 2 ^ 31) (hb : b < 2 ^ 31) (e : nI a = nI b) : a = b := by
  have := congrArg Int32.toInt e
  rw [nI_toInt ha, nI_toInt hb] at this
  omega
def rJ10q : Room := rLs 0 0 0 0
def rJ5q : Room := rLs 1 0 0 40
theorem kJ10_equals {R : Room} {s : State} {args : Array Value} {own : String} {idx mc ms : Nat} {rm : Room} (hts : ∀ w ∈ lw_all, w.before args s = true) (hl : Cond.methodLink own idx yJ10_equals ∈ lw_all) (hrc : rm.cells = mc) (hrs : rm.slots = ms) (hR : rm.frames + 1 ≤ R.frames ∧ 8 + (3 + 11) + rm.locals ≤ R.locals) : CallB R s args own idx yJ10_equals cJ10_equals 3 (some .boolean) (ws_ yJ10_equals cJ10_equals 3 (some .boolean)) rm mc ms 2 ∧ (Cond.static yJ10_equals).before args s = true :=
  va_cwS 2 hts (lw_S hl q1209 q124 q1210) rfl hrc hrs (by decide +kernel) hR
set_option maxRecDepth 100000 in
theorem mtJ10_eqCS (l : Launch) (D : va_G) (k : Nat → ClassId) (Z : zZ) (hOK : zOK D zCl (zTys k) Z) (w v1 n1 : Nat) (f1 : Nat → Int32) (hn1 : n1 < 2 ^ 31) (q v n : Nat) (f : Nat → Int32) (hn : n < 2 ^ 31) : CtR l yJ10_equals cJ10_equals 3 (some .boolean) rJ10q (zA Z (sS w v1 n1 f1)) D zCl [(v, .inl (k 2, n, .inl f))] [.ref v, .ref v1] (some (.int (bz (eqS n f n1 f1)))) := by
  refine CtR.of (by decide) (Nat.le_of_ble_eq_true rfl) ?_
  intro p e9 s m args below meth c hE hP hz ls hl
  obtain ⟨hx, hb, hr, hml, hown, hts, hlocks, hname⟩ := hE
  have hown : s.vm.findClass RJ10 = some m.cls := hown
  have hK := hOK.1 _ _ _ hz.1
  have hN := hOK.2.1 _ _ _ hz.1
  have hl : lv_has ls 3 [(0, .ref v), (1, .ref v1)] := hl
  refine lv_aload_n hx hb dJ10_equals_0 rfl (lv_at hl 0 rfl) ?_
  refine va_alen (v := nI n) hx hb hK hP 0 2 rfl rfl rfl dJ10_equals_1 ?_
  refine lv_aload_n hx hb dJ10_equals_2 rfl (lv_at hl 1 rfl) ?_
  refine va_tlen (v := nI n1) hx hb hz.2.2.2.2 va_S.rf rfl dJ10_equals_3 ?_
  refine lv_icmp_ne (tgt := 34) hx hb dJ10_equals_4 (by decide) (fun c1 => ?_) (fun c1 => ?_)
  · refine lv_iconst (v := bz false) hx hb dJ10_equals_34 (by decide) ?_
    exact retR_z hx hb hr hlocks (by rw [eqS_f (fun h => c1 (by rw [h.1]))]) dJ10_equals_35
  obtain rfl : n = n1 := nI_inj hn hn1 c1
  have key : ∀ (j i : Nat), i + j = n → (∀ x, x < i → f x = f1 x) → ∀ ls : Array Slot, lv_has ls 3 [(2, .int (nI i)), (0, .ref v), (1, .ref v1)] → W p l e9 rJ10q s m args below meth c s.heap [] 0 0 (MQ below (QRr (some (.int (bz (eqS n f n f1))))) args s 0 0 (fun _ => False)) (F0 m 9 ls []) := by
    intro j
    induction j with
    | zero =>
      intro i hi hag ls hl
      obtain rfl : i = n := by omega
      refine lv_iload_n hx hb dJ10_equals_9 rfl (lv_at hl 0 rfl) ?_
      refine lv_aload_n hx hb dJ10_equals_10 rfl (lv_at hl 1 rfl) ?_
      refine va_alen (v := nI i) hx hb hK hP 0 2 rfl rfl rfl dJ10_equals_11 ?_
      refine lv_icmp_ge (tgt := 32) hx hb dJ10_equals_12 (by decide) (fun _ => ?_) (fun c1 => absurd (Int32.le_refl _) c1)
      refine lv_iconst (v := bz true) hx hb dJ10_equals_32 (by decide) ?_
      exact retR_z hx hb hr hlocks (by rw [eqS_t ⟨rfl, hag⟩]) dJ10_equals_33
    | succ j ih =>
      intro i hi hag ls hl
      refine lv_iload_n hx hb dJ10_equals_9 rfl (lv_at hl 0 rfl) ?_
      refine lv_aload_n hx hb dJ10_equals_10 rfl (lv_at hl 1 rfl) ?_
      refine va_alen (v := nI n) hx hb hK hP 0 2 rfl rfl rfl dJ10_equals_11 ?_
      refine lv_icmp_ge (tgt := 32) hx hb dJ10_equals_12 (by decide) (fun c1 => absurd c1 (nI_ge (by omega) hn)) (fun _ => ?_)
      refine lv_aload_n hx hb dJ10_equals_15 rfl (lv_at hl 1 rfl) ?_
      refine lv_iload_n hx hb dJ10_equals_16 rfl (lv_at hl 0 rfl) ?_
      refine va_bald hx hb hK hP 0 2 rfl rfl (vp_in_nI (show i < n by omega) hn) dJ10_equals_17 ?_
      refine lv_aload_n hx hb dJ10_equals_18 rfl (lv_at hl 2 rfl) ?_
      refine lv_iload_n hx hb dJ10_equals_19 rfl (lv_at hl 0 rfl) ?_
      refine va_tb (v := .int (f1 (nI i).toNatClampNeg)) hx hb hz.2.2.2.2 va_S.rf (vp_in_nI (show i < n by omega) hn) rfl dJ10_equals_20 ?_
      refine lv_icmp_eq (tgt := 26) hx hb dJ10_equals_21 (by decide) (fun c1 => ?_) (fun c1 => ?_)
      · rw [nI_clamp (show i < 2 ^ 31 by omega)] at c1
        refine lv_iinc (v := nI i + 1) (lv' := [(2, .int (nI i + 1)), (0, .ref v), (1, .ref v1)]) hx hb dJ10_equals_26 hl (k := 0) rfl rfl (by decide) rfl (fun ls hl => ?_)
        rw [← nI_succ] at hl
        refine lv_goto (tgt := 9) hx hb dJ10_equals_29 (by decide) ?_
        refine ih (i + 1) (by omega) (fun x hx9 => ?_) ls hl
        rcases Nat.lt_or_ge x i with h | h
        · exact hag x h
        · obtain rfl : x = i := by omega
          exact c1
      · rw [nI_clamp (show i < 2 ^ 31 by omega)] at c1
        refine lv_iconst (v := bz false) hx hb dJ10_equals_24 (by decide) ?_
        exact retR_z hx hb hr hlocks (by rw [eqS_f (fun h => c1 (h.2 i (by omega)))]) dJ10_equals_25
  refine lv_iconst (v := nI 0) hx hb dJ10_equals_7 (by decide) ?_
  refine lv_istore_n (lv' := [(2, .int (nI 0)), (0, .ref v), (1, .ref v1)]) hx hb dJ10_equals_8 rfl hl (by decide) rfl (fun ls hl => ?_)
  exact key n 0 (by omega) (fun x h => absurd h (Nat.not_lt_zero x)) ls hl
set_option maxRecDepth 100000 in
theorem mtJ10_eqSC (l : Launch) (D : va_G) (k : Nat → ClassId) (Z : zZ) (hOK : zOK D zCl (zTys k) Z) (w v1 n1 : Nat) (f1 : Nat → Int32) (hn1 : n1 < 2 ^ 31) (q v n : Nat) (f : Nat → Int32) (hn : n < 2 ^ 31) : CtR l yJ10_equals cJ10_equals 3 (some .boolean) rJ10q (zA Z (sS w v1 n1 f1)) D zCl [(v, .inl (k 2, n, .inl f))] [.ref v1, .ref v] (some (.int (bz (eqS n f n1 f1)))) := by
  refine CtR.of (by decide) (Nat.le_of_ble_eq_true rfl) ?_
  intro p e9 s m args below meth c hE hP hz ls hl
  obtain ⟨hx, hb, hr, hml, hown, hts, hlocks, hname⟩ := hE
  have hown : s.vm.findClass RJ10 = some m.cls := hown
  have hK := hOK.1 _ _ _ hz.1
  have hN := hOK.2.1 _ _ _ hz.1
  have hl : lv_has ls 3 [(0, .ref v1), (1, .ref v)] := hl
  refine lv_aload_n hx hb dJ10_equals_0 rfl (lv_at hl 0 rfl) ?_
  refine va_tlen (v := nI n1) hx hb hz.2.2.2.2 va_S.rf rfl dJ10_equals_1 ?_
  refine lv_aload_n hx hb dJ10_equals_2 rfl (lv_at hl 1 rfl) ?_
  refine va_alen (v := nI n) hx hb hK hP 0 2 rfl rfl rfl dJ10_equals_3 ?_
  refine lv_icmp_ne (tgt := 34) hx hb dJ10_equals_4 (by decide) (fun c1 => ?_) (fun c1 => ?_)
  · refine lv_iconst (v := bz false) hx hb dJ10_equals_34 (by decide) ?_
    exact retR_z hx hb hr hlocks (by rw [eqS_f (fun h => c1 (by rw [h.1]))]) dJ10_equals_35
  obtain rfl : n = n1 := nI_inj hn hn1 c1.symm
  have key : ∀ (j i : Nat), i + j = n → (∀ x, x < i → f x = f1 x) → ∀ ls : Array Slot, lv_has ls 3 [(2, .int (nI i)), (0, .ref v1), (1, .ref v)] → W p l e9 rJ10q s m args below meth c s.heap [] 0 0 (MQ below (QRr (some (.int (bz (eqS n f n f1))))) args s 0 0 (fun _ => False)) (F0 m 9 ls []) := by
    intro j
    induction j with
    | zero =>
      intro i hi hag ls hl
      obtain rfl : i = n := by omega
      refine lv_iload_n hx hb dJ10_equals_9 rfl (lv_at hl 0 rfl) ?_
      refine lv_aload_n hx hb dJ10_equals_10 rfl (lv_at hl 1 rfl) ?_
      refine va_tlen (v := nI i) hx hb hz.2.2.2.2 va_S.rf rfl dJ10_equals_11 ?_
      refine lv_icmp_ge (tgt := 32) hx hb dJ10_equals_12 (by decide) (fun _ => ?_) (fun c1 => absurd (Int32.le_refl _) c1)
      refine lv_iconst (v := bz true) hx hb dJ10_equals_32 (by decide) ?_
      exact retR_z hx hb hr hlocks (by rw [eqS_t ⟨rfl, hag⟩]) dJ10_equals_33
    | succ j ih =>
      intro i hi hag ls hl
      refine lv_iload_n hx hb dJ10_equals_9 rfl (lv_at hl 0 rfl) ?_
      refine lv_aload_n hx hb dJ10_equals_10 rfl (lv_at hl 1 rfl) ?_
      refine va_tlen (v := nI n) hx hb hz.2.2.2.2 va_S.rf rfl dJ10_equals_11 ?_
      refine lv_icmp_ge (tgt := 32) hx hb dJ10_equals_12 (by decide) (fun c1 => absurd c1 (nI_ge (by omega) hn)) (fun _ => ?_)
      refine lv_aload_n hx hb dJ10_equals_15 rfl (lv_at hl 1 rfl) ?_
      refine lv_iload_n hx hb dJ10_equals_16 rfl (lv_at hl 0 rfl) ?_
      refine va_tb (v := .int (f1 (nI i).toNatClampNeg)) hx hb hz.2.2.2.2 va_S.rf (vp_in_nI (show i < n by omega) hn) rfl dJ10_equals_17 ?_
      refine lv_aload_n hx hb dJ10_equals_18 rfl (lv_at hl 2 rfl) ?_
      refine lv_iload_n hx hb dJ10_equals_19 rfl (lv_at hl 0 rfl) ?_
      refine va_bald hx hb hK hP 0 2 rfl rfl (vp_in_nI (show i < n by omega) hn) dJ10_equals_20 ?_
      refine lv_icmp_eq (tgt := 26) hx hb dJ10_equals_21 (by decide) (fun c1 => ?_) (fun c1 => ?_)
      · rw [nI_clamp (show i < 2 ^ 31 by omega)] at c1
        refine lv_iinc (v := nI i + 1) (lv' := [(2, .int (nI i + 1)), (0, .ref v1), (1, .ref v)]) hx hb dJ10_equals_26 hl (k := 0) rfl rfl (by decide) rfl (fun ls hl => ?_)
        rw [← nI_succ] at hl
        refine lv_goto (tgt := 9) hx hb dJ10_equals_29 (by decide) ?_
        refine ih (i + 1) (by omega) (fun x hx9 => ?_) ls hl
        rcases Nat.lt_or_ge x i with h | h
        · exact hag x h
        · obtain rfl : x = i := by omega
          exact c1.symm
      · rw [nI_clamp (show i < 2 ^ 31 by omega)] at c1
        refine lv_iconst (v := bz false) hx hb dJ10_equals_24 (by decide) ?_
        exact retR_z hx hb hr hlocks (by rw [eqS_f (fun h => c1 (h.2 i (by omega)).symm)]) dJ10_equals_25
  refine lv_iconst (v := nI 0) hx hb dJ10_equals_7 (by decide) ?_
  refine lv_istore_n (lv' := [(2, .int (nI 0)), (0, .ref v1), (1, .ref v)]) hx hb dJ10_equals_8 rfl hl (by decide) rfl (fun ls hl => ?_)
  exact key n 0 (by omega) (fun x h => absurd h (Nat.not_lt_zero x)) ls hl
theorem kJ5_equals {R : Room} {s : State} {args : Array Value} {own : String} {idx mc ms : Nat} {rm : Room} (hts : ∀ w ∈ lw_all, w.before args s = true) (hl : Cond.methodLink own idx yJ5_equals ∈ lw_all) (hrc : rm.cells = mc) (hrs : rm.slots = ms) (hR : rm.frames + 1 ≤ R.frames ∧ 8 + (3 + 11) + rm.locals ≤ R.locals) : CallW R s args own RJ5 idx yJ5_equals cJ5_equals 3 (some .boolean) (ws_ yJ5_equals cJ5_equals 3 (some .boolean)) rm mc ms 1 :=
  cwV 1 hts (lw_V hl q1204 q1205 q119 q1206) rfl hrc hrs (by decide +kernel) hR
set_option maxRecDepth 100000 in
theorem mtJ5_eqCS (l : Launch) (D : va_G) (k : Nat → ClassId) (Z : zZ) (hOK : zOK D zCl (zTys k) Z) (hCs : zCs Z) (w v1 n1 : Nat) (f1 : Nat → Int32) (hn1 : n1 < 2 ^ 31) (q v n : Nat) (f : Nat → Int32) (hn : n < 2 ^ 31) (h : Int32) (z : Bool) (hne : q ≠ w) : CtR l yJ5_equals cJ5_equals 3 (some .boolean) rJ5q (zA Z (sS w v1 n1 f1)) D zCl (strC k q v n h z f) [.ref q, .ref w] (some (.int (bz (eqS n f n1 f1)))) := by
  refine CtR.of (by decide) (Nat.le_of_ble_eq_true rfl) ?_
  intro p e9 s m args below meth c hE hP hz ls hl
  obtain ⟨hx, hb, hr, hml, hown, hts, hlocks, hname⟩ := hE
  have hown : s.vm.findClass RJ5 = some m.cls := hown
  have hK := hOK.1 _ _ _ hz.1
  have hN := hOK.2.1 _ _ _ hz.1
  have hl : lv_has ls 3 [(0, .ref q), (1, .ref w)] := hl
  refine lv_aload_n hx hb dJ5_equals_0 rfl (lv_at hl 0 rfl) ?_
  refine lv_aload_n hx hb dJ5_equals_1 rfl (lv_at hl 1 rfl) ?_
  refine lv_acmp_ne (rx := some q) (ry := some w) (tgt := 7) hx hb dJ5_equals_2 (by decide) (fun _ => ?_) (fun c1 => absurd (Option.some.inj c1) hne)
  refine lv_aload_n hx hb dJ5_equals_7 rfl (lv_at hl 1 rfl) ?_
  refine va_instS (cC := D.1 17) hx hb hown (hts _ q1207) (hK.1 17 _ rfl).2 (sS_recv hz.2) dJ5_equals_8 ?_
  refine lv_if_eq (tgt := 54) hx hb dJ5_equals_11 (by decide) (fun c1 => absurd c1 (by decide)) (fun _ => ?_)
  refine lv_aload_n hx hb dJ5_equals_14 rfl (lv_at hl 1 rfl) ?_
  refine va_castS (cC := D.1 17) hx hb hown (hts _ q1207) (hK.1 17 _ rfl).2 (sS_recv hz.2) dJ5_equals_15 ?_
  refine lv_astore_n (lv' := [(2, .ref w), (0, .ref q), (1, .ref w)]) hx hb dJ5_equals_18 rfl hl (by decide) rfl (fun ls hl => ?_)
  refine va_gets hx hb (hCs _ _ _ hz.1) va_S.rf hown (hts _ q1045) (fun _ h9 => h9) dJ5_equals_19 ?_
  refine lv_if_eq (tgt := 36) hx hb dJ5_equals_22 (by decide) (fun c1 => absurd c1 (by decide)) (fun _ => ?_)
  refine lv_aload_n hx hb dJ5_equals_25 rfl (lv_at hl 1 rfl) ?_
  refine va_get (ci := 17) (v := .int 0) (C := RJ5) (T := TJ5) (N := 4) hx hb hts in_J5 hown hK hP 0 rfl rfl 1 (by decide) (hts _ q1101) (fun _ h9 => h9) rfl dJ5_equals_26 ?_
  refine lv_aload_n hx hb dJ5_equals_29 rfl (lv_at hl 0 rfl) ?_
  refine vk_getf hx hb hz.2.2.1 va_S.rf hown (hts _ q1101) (fun _ h9 => h9) dJ5_equals_30 ?_
  refine lv_icmp_ne (tgt := 54) hx hb dJ5_equals_33 (by decide) (fun c1 => absurd rfl c1) (fun _ => ?_)
  refine lv_aload_n hx hb dJ5_equals_36 rfl (lv_at hl 1 rfl) ?_
  refine va_get (ci := 17) (v := .ref v) (C := RJ5) (T := TJ5) (N := 4) hx hb hts in_J5 hown hK hP 0 rfl rfl 0 (by decide) (hts _ q1100) (fun _ h9 => h9) rfl dJ5_equals_37 ?_
  refine lv_aload_n hx hb dJ5_equals_40 rfl (lv_at hl 0 rfl) ?_
  refine vk_getf hx hb hz.2.2.2.1 va_S.rf hown (hts _ q1100) (fun _ h9 => h9) dJ5_equals_41 ?_
  refine cRS (ws := [(v, .inl (k 2, n, .inl f))]) (As := [.ref v, .ref v1]) ⟨hx, hb, hml, hown, hts⟩ (zA_ok hOK sS_mv) hz va_S.rf (hP.sub [1] rfl) (mtJ10_eqCS l D k Z hOK w v1 n1 f1 hn1 q v n f hn) (kJ10_equals hts q1208 rfl rfl ⟨Nat.le_of_ble_eq_true rfl, Nat.le_of_ble_eq_true rfl⟩) rfl hl.1 rfl (lv_room (Nat.le_of_ble_eq_true rfl)) ⟨(Nat.le_of_ble_eq_true rfl), (Nat.le_of_ble_eq_true rfl)⟩ dJ5_equals_44 ?_
  cases hv : eqS n f n1 f1 with
  | false =>
    refine lv_if_eq (tgt := 54) hx hb dJ5_equals_47 (by decide) (fun _ => ?_) (fun c1 => absurd rfl c1)
    refine lv_iconst (v := bz false) hx hb dJ5_equals_54 (by decide) ?_
    exact retR_z hx hb hr hlocks rfl dJ5_equals_55
  | true =>
    refine lv_if_eq (tgt := 54) hx hb dJ5_equals_47 (by decide) (fun c1 => absurd c1 (by decide)) (fun _ => ?_)
    refine lv_iconst (v := bz true) hx hb dJ5_equals_50 (by decide) ?_
    refine lv_goto (tgt := 55) hx hb dJ5_equals_51 (by decide) ?_
    exact retR_z hx hb hr hlocks rfl dJ5_equals_55
set_option maxRecDepth 100000 in
theorem mtJ5_eqSC (l : Launch) (D : va_G) (k : Nat → ClassId) (Z : zZ) (hOK : zOK D zCl (zTys k) Z) (hCs : zCs Z) (w v1 n1 : Nat) (f1 : Nat → Int32) (hn1 : n1 < 2 ^ 31) (q v n : Nat) (f : Nat → Int32) (hn : n < 2 ^ 31) (h : Int32) (z : Bool) (hne : q ≠ w) : CtR l yJ5_equals cJ5_equals 3 (some .boolean) rJ5q (zA Z (sS w v1 n1 f1)) D zCl (strC k q v n h z f) [.ref w, .ref q] (some (.int (bz (eqS n f n1 f1)))) := by
  refine CtR.of (by decide) (Nat.le_of_ble_eq_true rfl) ?_
  intro p e9 s m args below meth c hE hP hz ls hl
  obtain ⟨hx, hb, hr, hml, hown, hts, hlocks, hname⟩ := hE
  have hown : s.vm.findClass RJ5 = some m.cls := hown
  have hK := hOK.1 _ _ _ hz.1
  have hN := hOK.2.1 _ _ _ hz.1
  have hl : lv_has ls 3 [(0, .ref w), (1, .ref q)] := hl
  refine lv_aload_n hx hb dJ5_equals_0 rfl (lv_at hl 0 rfl) ?_
  refine lv_aload_n hx hb dJ5_equals_1 rfl (lv_at hl 1 rfl) ?_
  refine lv_acmp_ne (rx := some w) (ry := some q) (tgt := 7) hx hb dJ5_equals_2 (by decide) (fun _ => ?_) (fun c1 => absurd (Option.some.inj c1) hne.symm)
  refine lv_aload_n hx hb dJ5_equals_7 rfl (lv_at hl 1 rfl) ?_
  refine va_instS (cC := D.1 17) hx hb hown (hts _ q1207) (hK.1 17 _ rfl).2 ((va_recv (q := zCl[17]) hK hP rfl (show ((strC k q v n h z f))[0]? = some (q, .inr (17, _)) from rfl))) dJ5_equals_8 ?_
  refine lv_if_eq (tgt := 54) hx hb dJ5_equals_11 (by decide) (fun c1 => absurd c1 (by decide)) (fun _ => ?_)
  refine lv_aload_n hx hb dJ5_equals_14 rfl (lv_at hl 1 rfl) ?_
  refine va_castS (cC := D.1 17) hx hb hown (hts _ q1207) (hK.1 17 _ rfl).2 ((va_recv (q := zCl[17]) hK hP rfl (show ((strC k q v n h z f))[0]? = some (q, .inr (17, _)) from rfl))) dJ5_equals_15 ?_
  refine lv_astore_n (lv' := [(2, .ref q), (0, .ref w), (1, .ref q)]) hx hb dJ5_equals_18 rfl hl (by decide) rfl (fun ls hl => ?_)
  refine va_gets hx hb (hCs _ _ _ hz.1) va_S.rf hown (hts _ q1045) (fun _ h9 => h9) dJ5_equals_19 ?_
  refine lv_if_eq (tgt := 36) hx hb dJ5_equals_22 (by decide) (fun c1 => absurd c1 (by decide)) (fun _ => ?_)
  refine lv_aload_n hx hb dJ5_equals_25 rfl (lv_at hl 1 rfl) ?_
  refine vk_getf hx hb hz.2.2.1 va_S.rf hown (hts _ q1101) (fun _ h9 => h9) dJ5_equals_26 ?_
  refine lv_aload_n hx hb dJ5_equals_29 rfl (lv_at hl 0 rfl) ?_
  refine va_get (ci := 17) (v := .int 0) (C := RJ5) (T := TJ5) (N := 4) hx hb hts in_J5 hown hK hP 0 rfl rfl 1 (by decide) (hts _ q1101) (fun _ h9 => h9) rfl dJ5_equals_30 ?_
  refine lv_icmp_ne (tgt := 54) hx hb dJ5_equals_33 (by decide) (fun c1 => absurd rfl c1) (fun _ => ?_)
  refine lv_aload_n hx hb dJ5_equals_36 rfl (lv_at hl 1 rfl) ?_
  refine vk_getf hx hb hz.2.2.2.1 va_S.rf hown (hts _ q1100) (fun _ h9 => h9) dJ5_equals_37 ?_
  refine lv_aload_n hx hb dJ5_equals_40 rfl (lv_at hl 0 rfl) ?_
  refine va_get (ci := 17) (v := .ref v) (C := RJ5) (T := TJ5) (N := 4) hx hb hts in_J5 hown hK hP 0 rfl rfl 0 (by decide) (hts _ q1100) (fun _ h9 => h9) rfl dJ5_equals_41 ?_
  refine cRS (ws := [(v, .inl (k 2, n, .inl f))]) (As := [.ref v1, .ref v]) ⟨hx, hb, hml, hown, hts⟩ (zA_ok hOK sS_mv) hz va_S.rf (hP.sub [1] rfl) (mtJ10_eqSC l D k Z hOK w v1 n1 f1 hn1 q v n f hn) (kJ10_equals hts q1208 rfl rfl ⟨Nat.le_of_ble_eq_true rfl, Nat.le_of_ble_eq_true rfl⟩) rfl hl.1 rfl (lv_room (Nat.le_of_ble_eq_true rfl)) ⟨(Nat.le_of_ble_eq_true rfl), (Nat.le_of_ble_eq_true rfl)⟩ dJ5_equals_44 ?_
  cases hv : eqS n f n1 f1 with
  | false =>
    refine lv_if_eq (tgt := 54) hx hb dJ5_equals_47 (by decide) (fun _ => ?_) (fun c1 => absurd rfl c1)
    refine lv_iconst (v := bz false) hx hb dJ5_equals_54 (by decide) ?_
    exact retR_z hx hb hr hlocks rfl dJ5_equals_55
  | true =>
    refine lv_if_eq (tgt := 54) hx hb dJ5_equals_47 (by decide) (fun c1 => absurd c1 (by decide)) (fun _ => ?_)
    refine lv_iconst (v := bz true) hx hb dJ5_equals_50 (by decide) ?_
    refine lv_goto (tgt := 55) hx hb dJ5_equals_51 (by decide) ?_
    exact retR_z hx hb hr hlocks rfl dJ5_equals_55
