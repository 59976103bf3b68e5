/-! FROM THE ENTRY TO THE LOOP -/
theorem ht_of {l : Launch} (h : l.flags = flags0) : l.stackTraces = false := by
  unfold Launch.stackTraces
  rw [h]
  decide +kernel
set_option maxRecDepth 100000 in
theorem lawStart {p : Program} {e : Env} {s : State} {m : MethodId} {below : List Frame} {meth : Method} {c : Code} (l : Launch) (hflags : l.flags = flags0) {b L : Nat} {xs : Nat → Int32} (hL : L ≤ 384) (C0 : lw_At p s m meth c b L xs) (I : (Nat → ClassId) → Nat → (Nat → Nat) → Nat → Nat → Nat → Nat → Tw → Kp → Wd → Wd → Wd → Rd → Sc → Wd → va_W → Lo → Wd → va_W → Prop)
    (hI0 : ∀ (k : Nat → ClassId) (e0 : Nat) (aF : Nat → Nat) (qw : Nat), I k e0 aF qw 0 63 12444 tw0 kp0 wd0 wd0 wd0 rd0 sc0 wd0 [lsO qw e0 0 0] lo0 wd0 [])
    (hroom : ∀ (k : Nat → ClassId) (e0 : Nat) (aF : Nat → Nat) (qw j cells slots : Nat) (t : Tw) (sh : Kp) (sw sdr sim : Wd) (srd : Rd) (ssc : Sc) (sth : Wd) (w0 : va_W) (slo : Lo) (str : Wd) (P : va_W), I k e0 aF qw j cells slots t sh sw sdr sim srd ssc sth w0 slo str P → j ≤ 64 → cells ≤ 603072 ∧ slots ≤ 7190634)
    (hmono : ∀ (k : Nat → ClassId) (e0 : Nat) (aF : Nat → Nat) (qw j cells slots : Nat) (t : Tw) (sh : Kp) (sw sdr sim : Wd) (srd : Rd) (ssc : Sc) (sth : Wd) (w0 : va_W) (slo : Lo) (str : Wd) (P : va_W), I k e0 aF qw j cells slots t sh sw sdr sim srd ssc sth w0 slo str P → I k e0 aF qw (j + 1) cells slots t sh sw sdr sim srd ssc sth w0 slo str P)
    (hst : ∀ (D : va_G) (k : Nat → ClassId) (adK adV : Nat → Nat) (e0 mi : Nat) (aF : Nat → Nat) (vq : Nat) (a6 ah aw adr aim ard asc ath awl alo atr : Nat → Nat) (ao : Nat), l.stackTraces = false → lwC p s m c D k (zZZ D k adK adV e0 mi aF vq) b L xs → ∀ pc ∈ [288, 361, 386, 430, 474, 487, 555, 623, 707, 782, 850, 941, 1032, 1135, 1191, 1247, 1303, 1359, 1415, 1471, 1551, 1564, 1620, 1688, 1701, 1757, 1770, 1783, 1839, 1852, 1865, 1878, 1891, 1916, 1972, 2016, 2060, 2132, 2176, 2189, 2202, 2270, 2283, 2351, 2364, 2377, 2433, 2489, 2545, 2558, 2642, 2726, 2810, 2878, 2903, 2916, 2927, 2940], lwStep p l e s m below meth c (lw_Z below #[Value.ref b] s) D k b L xs a6 ah aw adr aim ard asc ath awl alo atr ao (I k e0 aF (awl 0)) pc) :
    W p l e room_1 s m #[Value.ref b] below meth c s.heap [] 0 0 (lw_Z below #[Value.ref b] s) (entryFrame m ([Value.ref b] : List Value).toArray 7) := by
  obtain ⟨hx, hb, hr, hml, hown, htb, hX, hbl, hlocks, hgv⟩ := C0
  have hlt := ht_of hflags
  have hts : ∀ w ∈ lw_all, w.before #[Value.ref b] s = true := fun w h => htb w (lw_all_tbl h)
  obtain ⟨D, k, adK, adV, e0, mi, aF, vq, hz⟩ := zStart htb hgv
  have hO6 : zOK D zCl (zTy6 k) (zZZ D k adK adV e0 mi aF vq) := zZZ_ok6
  have hOK := zOK6 hO6
  have hown : s.vm.findClass RX0 = some m.cls := hown
  have hb : c.code = cL_law := hb
  have hC : lwC p s m c D k (zZZ D k adK adV e0 mi aF vq) b L xs := ⟨hx, hb, hml, hown, hts, hX, hbl, hOK, hz⟩
  have hK := hOK.1 _ _ _ hz
  have hA : ∀ q : Nat, s.heap.size ≤ q → (fun q => s.heap.size ≤ q) q := fun _ h => h
  have hS : va_S (fun q => s.heap.size ≤ q) s.heap s.heap [] := va_S.rf
  have hP : va_P D zCl [] s.heap := fun k q h => by simp at h
  have hD : va_D (fun q => s.heap.size ≤ q) [] := ⟨fun i j p q h => by simp at h, fun k q h => by simp at h⟩
  have hl := lv_entry ([.ref b]) (n := 7) (Nat.le_of_ble_eq_true rfl)
  rw [lg_entry_eq]
  generalize (lg_sl ([.ref b]) ++ List.replicate (7 - (lg_sl ([.ref b])).length) Slot.unset).toArray = ls at hl ⊢
  have hl : lv_has ls 7 [(0, .ref b)] := hl
  refine va_new (ci := 1) (fs := [.null, .null, .null, .int 0, .null, .null, .null, .null, .null, .null]) (C := RX1) (T := TX1) (N := 10) hx hb hts in_X1 tyX1 tyX1_ok hown (hts _ q148) (hts _ q149) (hts _ q107) hK hP hD hS hA rfl (zdef 10 tyX1) (Nat.le_of_ble_eq_true rfl) (Nat.le_of_ble_eq_true rfl) dL_law_0 (fun q0 H hP hD hS => ?_)
  have hP : va_P D zCl ([] ++ ([(q0, .inr (1, [.null, .null, .null, .int 0, .null, .null, .null, .null, .null, .null]))] ++ [])) _ := hP
  have hD : va_D (fun q => s.heap.size ≤ q) ([] ++ ([(q0, .inr (1, [.null, .null, .null, .int 0, .null, .null, .null, .null, .null, .null]))] ++ [])) := hD
  refine lv_dup hx hb dL_law_3 rfl ?_
  refine cWI [] [(q0, .inr (1, [.null, .null, .null, .int 0, .null, .null, .null, .null, .null, .null]))] [] (As := []) ⟨hx, hb, hml, hown, hts⟩ hOK hz hS hA hP hD (mtX1_init l D k _ hOK zZZ_ls q0) (kX1_init hts q150 rfl rfl ⟨Nat.le_of_ble_eq_true rfl, Nat.le_of_ble_eq_true rfl⟩) rfl hl.1 rfl (lv_room (Nat.le_of_ble_eq_true rfl)) ⟨Nat.le_of_ble_eq_true rfl, Nat.le_of_ble_eq_true rfl⟩ dL_law_4 (fun r_ w_ H locs hq hP hD hS => ?_)
  obtain ⟨ah, aw, adr, aim, ard, asc, ath, awl, alo, atr, ha0, rfl, rfl⟩ := hq
  rw [← ha0]
  have hP : va_P D zCl (((((((((((cH k ah aw adr aim ard asc ath awl alo atr kp0) ++ (cW k aw wd0)) ++ (cW k adr wd0)) ++ (cW k aim wd0)) ++ (cR k ard rd0)) ++ (cS k asc sc0)) ++ (cW k ath wd0)) ++ [lsO (awl 0) e0 0 0]) ++ (cL k alo (ah 0) lo0)) ++ (cW k atr wd0)) ++ []) _ := hP
  have hD : va_D (fun q => s.heap.size ≤ q) (((((((((((cH k ah aw adr aim ard asc ath awl alo atr kp0) ++ (cW k aw wd0)) ++ (cW k adr wd0)) ++ (cW k aim wd0)) ++ (cR k ard rd0)) ++ (cS k asc sc0)) ++ (cW k ath wd0)) ++ [lsO (awl 0) e0 0 0]) ++ (cL k alo (ah 0) lo0)) ++ (cW k atr wd0)) ++ []) := hD
  rw [List.append_nil] at hP hD
  refine lv_astore_n (lv' := [(1, .ref (ah 0)), (0, .ref b)]) hx hb dL_law_7 rfl hl (by decide) rfl (fun ls hl => ?_)
  refine va_new (ci := 0) (fs := [.int 0, .null, .null, .int 0, .null, .null, .int 0, .null, .int 0, .int 0, .int 0, .int 0, .int 0, .int 0, .null, .int 0, .int 0, .int 0, .null, .int 0, .null, .null]) (C := RX6) (T := TX6) (N := 22) hx hb hts in_X6 tyX6 tyX6_ok hown (hts _ q1896) (hts _ q1897) (hts _ q115) hK hP hD hS hA rfl (zdef 22 tyX6) (Nat.le_of_ble_eq_true rfl) (Nat.le_of_ble_eq_true rfl) dL_law_8 (fun q1 H hP hD hS => ?_)
  have hP : va_P D zCl (((((((((((cH k ah aw adr aim ard asc ath awl alo atr kp0) ++ (cW k aw wd0)) ++ (cW k adr wd0)) ++ (cW k aim wd0)) ++ (cR k ard rd0)) ++ (cS k asc sc0)) ++ (cW k ath wd0)) ++ [lsO (awl 0) e0 0 0]) ++ (cL k alo (ah 0) lo0)) ++ (cW k atr wd0)) ++ ([(q1, .inr (0, [.int 0, .null, .null, .int 0, .null, .null, .int 0, .null, .int 0, .int 0, .int 0, .int 0, .int 0, .int 0, .null, .int 0, .int 0, .int 0, .null, .int 0, .null, .null]))] ++ [])) _ := hP
  have hD : va_D (fun q => s.heap.size ≤ q) (((((((((((cH k ah aw adr aim ard asc ath awl alo atr kp0) ++ (cW k aw wd0)) ++ (cW k adr wd0)) ++ (cW k aim wd0)) ++ (cR k ard rd0)) ++ (cS k asc sc0)) ++ (cW k ath wd0)) ++ [lsO (awl 0) e0 0 0]) ++ (cL k alo (ah 0) lo0)) ++ (cW k atr wd0)) ++ ([(q1, .inr (0, [.int 0, .null, .null, .int 0, .null, .null, .int 0, .null, .int 0, .int 0, .int 0, .int 0, .int 0, .int 0, .null, .int 0, .int 0, .int 0, .null, .int 0, .null, .null]))] ++ [])) := hD
  refine lv_dup hx hb dL_law_11 rfl ?_
  refine cWI ((((((((((cH k ah aw adr aim ard asc ath awl alo atr kp0) ++ (cW k aw wd0)) ++ (cW k adr wd0)) ++ (cW k aim wd0)) ++ (cR k ard rd0)) ++ (cS k asc sc0)) ++ (cW k ath wd0)) ++ [lsO (awl 0) e0 0 0]) ++ (cL k alo (ah 0) lo0)) ++ (cW k atr wd0)) [(q1, .inr (0, [.int 0, .null, .null, .int 0, .null, .null, .int 0, .null, .int 0, .int 0, .int 0, .int 0, .int 0, .int 0, .null, .int 0, .int 0, .int 0, .null, .int 0, .null, .null]))] [] (As := []) ⟨hx, hb, hml, hown, hts⟩ hOK hz hS hA hP hD (mtX6_init l D k _ hOK q1) (kX6_init hts q1898 rfl rfl ⟨Nat.le_of_ble_eq_true rfl, Nat.le_of_ble_eq_true rfl⟩) rfl hl.1 rfl (lv_room (Nat.le_of_ble_eq_true rfl)) ⟨Nat.le_of_ble_eq_true rfl, Nat.le_of_ble_eq_true rfl⟩ dL_law_12 (fun r_ w_ H locs hq hP hD hS => ?_)
  obtain ⟨a6, ha6, rfl, rfl⟩ := hq
  rw [← ha6]
  have hP : va_P D zCl (((((((((((cH k ah aw adr aim ard asc ath awl alo atr kp0) ++ (cW k aw wd0)) ++ (cW k adr wd0)) ++ (cW k aim wd0)) ++ (cR k ard rd0)) ++ (cS k asc sc0)) ++ (cW k ath wd0)) ++ [lsO (awl 0) e0 0 0]) ++ (cL k alo (ah 0) lo0)) ++ (cW k atr wd0)) ++ (cT k a6 tw0 ++ [])) _ := hP
  have hD : va_D (fun q => s.heap.size ≤ q) (((((((((((cH k ah aw adr aim ard asc ath awl alo atr kp0) ++ (cW k aw wd0)) ++ (cW k adr wd0)) ++ (cW k aim wd0)) ++ (cR k ard rd0)) ++ (cS k asc sc0)) ++ (cW k ath wd0)) ++ [lsO (awl 0) e0 0 0]) ++ (cL k alo (ah 0) lo0)) ++ (cW k atr wd0)) ++ (cT k a6 tw0 ++ [])) := hD
  rw [List.append_nil] at hP hD
  refine lv_astore_n (lv' := [(2, .ref (a6 0)), (1, .ref (ah 0)), (0, .ref b)]) hx hb dL_law_15 rfl hl (by decide) rfl (fun ls hl => ?_)
  refine lv_iconst (v := (1 : Int32)) hx hb dL_law_16 (by decide) ?_
  refine va_newa (atype := .long) (ty := .long) (a0 := (1, .inr (.inl (fun _ => 0)))) (N' := 1) hx hb (hts _ q2491) rfl hK hP hD hS hA (fun _ => rfl) (by decide) (by decide) (by decide) (Nat.le_of_ble_eq_true rfl) (Nat.le_of_ble_eq_true rfl) dL_law_17 (fun ao cA H hK2 hP hD hS => ?_)
  cases zcAg hK2 3 rfl
  have hP : va_P D zCl ((((((((((((cH k ah aw adr aim ard asc ath awl alo atr kp0) ++ (cW k aw wd0)) ++ (cW k adr wd0)) ++ (cW k aim wd0)) ++ (cR k ard rd0)) ++ (cS k asc sc0)) ++ (cW k ath wd0)) ++ [lsO (awl 0) e0 0 0]) ++ (cL k alo (ah 0) lo0)) ++ (cW k atr wd0)) ++ cT k a6 tw0) ++ [ouC k ao (fun _ => 0)]) _ := hP
  have hD : va_D (fun q => s.heap.size ≤ q) ((((((((((((cH k ah aw adr aim ard asc ath awl alo atr kp0) ++ (cW k aw wd0)) ++ (cW k adr wd0)) ++ (cW k aim wd0)) ++ (cR k ard rd0)) ++ (cS k asc sc0)) ++ (cW k ath wd0)) ++ [lsO (awl 0) e0 0 0]) ++ (cL k alo (ah 0) lo0)) ++ (cW k atr wd0)) ++ cT k a6 tw0) ++ [ouC k ao (fun _ => 0)]) := hD
  refine lv_astore_n (lv' := [(3, .ref ao), (2, .ref (a6 0)), (1, .ref (ah 0)), (0, .ref b)]) hx hb dL_law_19 rfl hl (by decide) rfl (fun ls hl => ?_)
  refine lv_iconst (v := (0 : Int32)) hx hb dL_law_20 (by decide) ?_
  refine lv_istore (lv' := [(4, .int (0 : Int32)), (3, .ref ao), (2, .ref (a6 0)), (1, .ref (ah 0)), (0, .ref b)]) hx hb dL_law_21 hl (by decide) rfl (fun ls hl => ?_)
  have ez : zcat [(cH k ah aw adr aim ard asc ath awl alo atr kp0), (cW k aw wd0), (cW k adr wd0), (cW k aim wd0), (cR k ard rd0), (cS k asc sc0), (cW k ath wd0), [lsO (awl 0) e0 0 0], (cL k alo (ah 0) lo0), (cW k atr wd0), (cT k a6 tw0), [], [ouC k ao (fun _ => 0)]] = (((((((((((cH k ah aw adr aim ard asc ath awl alo atr kp0) ++ (cW k aw wd0)) ++ (cW k adr wd0)) ++ (cW k aim wd0)) ++ (cR k ard rd0)) ++ (cS k asc sc0)) ++ (cW k ath wd0)) ++ [lsO (awl 0) e0 0 0]) ++ (cL k alo (ah 0) lo0)) ++ (cW k atr wd0)) ++ cT k a6 tw0) ++ [ouC k ao (fun _ => 0)] := by simp only [zcat, List.append_assoc, List.nil_append]
  rw [← ez] at hP hD
  have hP := zbP [(cH k ah aw adr aim ard asc ath awl alo atr kp0), (cW k aw wd0), (cW k adr wd0), (cW k aim wd0), (cR k ard rd0), (cS k asc sc0), (cW k ath wd0), [lsO (awl 0) e0 0 0], (cL k alo (ah 0) lo0), (cW k atr wd0), (cT k a6 tw0), [], [ouC k ao (fun _ => 0)]] 13 [10, 0, 1, 2, 3, 4, 5, 6, 7, 8, 9, 11, 12] hP rfl (by decide)
  have hD := zbD [(cH k ah aw adr aim ard asc ath awl alo atr kp0), (cW k aw wd0), (cW k adr wd0), (cW k aim wd0), (cR k ard rd0), (cS k asc sc0), (cW k ath wd0), [lsO (awl 0) e0 0 0], (cL k alo (ah 0) lo0), (cW k atr wd0), (cT k a6 tw0), [], [ouC k ao (fun _ => 0)]] 13 [10, 0, 1, 2, 3, 4, 5, 6, 7, 8, 9, 11, 12] hD rfl (by decide)
  refine W.widen (k := 63) (n := 12444) (Nat.le_of_ble_eq_true rfl) (Nat.le_of_ble_eq_true rfl) ?_
  refine lawLoop (I := I k e0 aF (awl 0)) hC hL (fun j cells slots t sh sw sdr sim srd ssc sth w0 slo str P H locs ls hj hI hS => ?_) (hmono k e0 aF (awl 0)) (hst D k adK adV e0 mi aF vq a6 ah aw adr aim ard asc ath awl alo atr ao hlt hC) 64 0 63 12444 tw0 kp0 wd0 wd0 wd0 rd0 sc0 wd0 _ lo0 wd0 [] (fun _ => 0) _ _ ls rfl (hI0 k e0 aF (awl 0)) hP hD hS (lv_sub hl [4, 3, 2, 1, 0] rfl)
  obtain ⟨h1, h2⟩ := hroom _ _ _ _ _ _ _ _ _ _ _ _ _ _ _ _ _ _ _ hI hj
  refine lv_iconst (v := (1 : Int32)) hx hb dL_law_2971 (by decide) ?_
  refine va_forget (fun q hq => hS.2.2 q hq) ?_
  refine W.widen (k := 603072) (n := 7190634) h1 h2 ?_
  exact lw_ret hx hb hr hlocks dL_law_2972
