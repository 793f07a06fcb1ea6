/-! field links: what getfield and putfield do at each -/
set_option maxRecDepth 100000
/-- a value of a kind: 0 int, 1 long, 2 reference, 3 boolean -/
def vok (t : Nat) (v : Value) : Prop := match t with
  | 0 => ∃ x, v = .int x
  | 1 => ∃ x, v = .long x
  | 2 => ∃ x, v = .ref x
  | _ => v = .int 0 ∨ v = .int 1
def gfOK (own : String) (j lo hi f : Nat) : Prop := ∀ (p : Program) (l : Launch) (e : Env) (R : Room) (s : State) (m : MethodId) (args : Array Value) (below : List Frame) (meth : Method) (c : Code) (H : Heap) (locs : List Loc) (cells slots : Nat) (Q : State → Prop) (pc : Nat) (ls : Array Slot) (rest : List Value) (D : va_G) (tys : List (ClassId × FieldType)) (ws : va_W) (a q0 ci : Nat) (fs : List Value) (v : Value), p.tables.exec = Jvm.exec → (∀ w ∈ lw_all, w.before args s = true) → s.vm.findClass own = some m.cls → va_K D cls tys s → va_P D cls ws H → ws[q0]? = some (a, .inr (ci, fs)) → lo ≤ ci + 1 → ci + 1 ≤ hi → fs[f]? = some v → decode c.code pc = .ok (.getfield j, 3) → W p l e R s m args below meth c H locs cells slots Q (F0 m (pc + 3) ls (v :: rest)) → W p l e R s m args below meth c H locs cells slots Q (F0 m pc ls (.ref a :: rest))
def pfOK (own : String) (j lo hi f t fin : Nat) : Prop := ∀ (p : Program) (l : Launch) (e : Env) (R : Room) (s : State) (m : MethodId) (args : Array Value) (below : List Frame) (meth : Method) (c : Code) (H : Heap) (locs : List Loc) (cells slots : Nat) (Q : State → Prop) (pc : Nat) (ls : Array Slot) (rest : List Value) (D : va_G) (tys : List (ClassId × FieldType)) (ws : va_W) (a q0 ci : Nat) (fs : List Value) (v : Value) (A : Nat → Prop) (H0 : Heap), p.tables.exec = Jvm.exec → (∀ w ∈ lw_all, w.before args s = true) → s.vm.findClass own = some m.cls → va_K D cls tys s → va_P D cls ws H → va_D A ws → va_S A H0 H locs → ws[q0]? = some (a, .inr (ci, fs)) → lo ≤ ci + 1 → ci + 1 ≤ hi → (fin = 1 → meth.name = "<init>") → vok t v → f < fs.length → decode c.code pc = .ok (.putfield j, 3) → (∀ (H1 : Heap) (locs1 : List Loc), va_P D cls (ws.set q0 (a, .inr (ci, fs.set f v))) H1 → va_D A (ws.set q0 (a, .inr (ci, fs.set f v))) → va_S A H0 H1 locs1 → W p l e R s m args below meth c H1 locs1 cells slots Q (F0 m (pc + 3) ls rest)) → W p l e R s m args below meth c H locs cells slots Q (F0 m pc ls (v :: .ref a :: rest))
theorem gf_1010 : gfOK RX0 10 1 1 0 := by
  intro p l e R s m args below meth c H locs cells slots Q pc ls rest D tys ws a q0 ci fs v hx hts hown hK hP he h1 h2 hv hd kk
  obtain rfl : ci = 0 := by omega
  exact va_get hx rfl hts in_X0 hown hK hP q0 he (C := RX0) (T := TX0) (N := 19) rfl 0 (by decide) (hts _ q1002) (fun x h => h) hv hd kk
theorem gf_1021 : gfOK RX0 21 1 1 1 := by
  intro p l e R s m args below meth c H locs cells slots Q pc ls rest D tys ws a q0 ci fs v hx hts hown hK hP he h1 h2 hv hd kk
  obtain rfl : ci = 0 := by omega
  exact va_get hx rfl hts in_X0 hown hK hP q0 he (C := RX0) (T := TX0) (N := 19) rfl 1 (by decide) (hts _ q1003) (fun x h => h) hv hd kk
theorem gf_1030 : gfOK RX0 30 1 1 2 := by
  intro p l e R s m args below meth c H locs cells slots Q pc ls rest D tys ws a q0 ci fs v hx hts hown hK hP he h1 h2 hv hd kk
  obtain rfl : ci = 0 := by omega
  exact va_get hx rfl hts in_X0 hown hK hP q0 he (C := RX0) (T := TX0) (N := 19) rfl 2 (by decide) (hts _ q1004) (fun x h => h) hv hd kk
theorem gf_1039 : gfOK RX0 39 1 1 3 := by
  intro p l e R s m args below meth c H locs cells slots Q pc ls rest D tys ws a q0 ci fs v hx hts hown hK hP he h1 h2 hv hd kk
  obtain rfl : ci = 0 := by omega
  exact va_get hx rfl hts in_X0 hown hK hP q0 he (C := RX0) (T := TX0) (N := 19) rfl 3 (by decide) (hts _ q1005) (fun x h => h) hv hd kk
theorem gf_1046 : gfOK RX0 46 1 1 4 := by
  intro p l e R s m args below meth c H locs cells slots Q pc ls rest D tys ws a q0 ci fs v hx hts hown hK hP he h1 h2 hv hd kk
  obtain rfl : ci = 0 := by omega
  exact va_get hx rfl hts in_X0 hown hK hP q0 he (C := RX0) (T := TX0) (N := 19) rfl 4 (by decide) (hts _ q1006) (fun x h => h) hv hd kk
theorem gf_1053 : gfOK RX0 53 1 1 5 := by
  intro p l e R s m args below meth c H locs cells slots Q pc ls rest D tys ws a q0 ci fs v hx hts hown hK hP he h1 h2 hv hd kk
  obtain rfl : ci = 0 := by omega
  exact va_get hx rfl hts in_X0 hown hK hP q0 he (C := RX0) (T := TX0) (N := 19) rfl 5 (by decide) (hts _ q1007) (fun x h => h) hv hd kk
theorem gf_1060 : gfOK RX0 60 1 1 6 := by
  intro p l e R s m args below meth c H locs cells slots Q pc ls rest D tys ws a q0 ci fs v hx hts hown hK hP he h1 h2 hv hd kk
  obtain rfl : ci = 0 := by omega
  exact va_get hx rfl hts in_X0 hown hK hP q0 he (C := RX0) (T := TX0) (N := 19) rfl 6 (by decide) (hts _ q1008) (fun x h => h) hv hd kk
theorem gf_1067 : gfOK RX0 67 1 1 7 := by
  intro p l e R s m args below meth c H locs cells slots Q pc ls rest D tys ws a q0 ci fs v hx hts hown hK hP he h1 h2 hv hd kk
  obtain rfl : ci = 0 := by omega
  exact va_get hx rfl hts in_X0 hown hK hP q0 he (C := RX0) (T := TX0) (N := 19) rfl 7 (by decide) (hts _ q1009) (fun x h => h) hv hd kk
theorem gf_1071 : gfOK RX0 71 1 1 8 := by
  intro p l e R s m args below meth c H locs cells slots Q pc ls rest D tys ws a q0 ci fs v hx hts hown hK hP he h1 h2 hv hd kk
  obtain rfl : ci = 0 := by omega
  exact va_get hx rfl hts in_X0 hown hK hP q0 he (C := RX0) (T := TX0) (N := 19) rfl 8 (by decide) (hts _ q1010) (fun x h => h) hv hd kk
theorem gf_1074 : gfOK RX0 74 1 1 10 := by
  intro p l e R s m args below meth c H locs cells slots Q pc ls rest D tys ws a q0 ci fs v hx hts hown hK hP he h1 h2 hv hd kk
  obtain rfl : ci = 0 := by omega
  exact va_get hx rfl hts in_X0 hown hK hP q0 he (C := RX0) (T := TX0) (N := 19) rfl 10 (by decide) (hts _ q1012) (fun x h => h) hv hd kk
theorem gf_1078 : gfOK RX0 78 1 1 13 := by
  intro p l e R s m args below meth c H locs cells slots Q pc ls rest D tys ws a q0 ci fs v hx hts hown hK hP he h1 h2 hv hd kk
  obtain rfl : ci = 0 := by omega
  exact va_get hx rfl hts in_X0 hown hK hP q0 he (C := RX0) (T := TX0) (N := 19) rfl 13 (by decide) (hts _ q1015) (fun x h => h) hv hd kk
theorem gf_1081 : gfOK RX0 81 1 1 15 := by
  intro p l e R s m args below meth c H locs cells slots Q pc ls rest D tys ws a q0 ci fs v hx hts hown hK hP he h1 h2 hv hd kk
  obtain rfl : ci = 0 := by omega
  exact va_get hx rfl hts in_X0 hown hK hP q0 he (C := RX0) (T := TX0) (N := 19) rfl 15 (by decide) (hts _ q1017) (fun x h => h) hv hd kk
theorem gf_1088 : gfOK RX0 88 1 1 11 := by
  intro p l e R s m args below meth c H locs cells slots Q pc ls rest D tys ws a q0 ci fs v hx hts hown hK hP he h1 h2 hv hd kk
  obtain rfl : ci = 0 := by omega
  exact va_get hx rfl hts in_X0 hown hK hP q0 he (C := RX0) (T := TX0) (N := 19) rfl 11 (by decide) (hts _ q1013) (fun x h => h) hv hd kk
theorem gf_1092 : gfOK RX0 92 1 1 12 := by
  intro p l e R s m args below meth c H locs cells slots Q pc ls rest D tys ws a q0 ci fs v hx hts hown hK hP he h1 h2 hv hd kk
  obtain rfl : ci = 0 := by omega
  exact va_get hx rfl hts in_X0 hown hK hP q0 he (C := RX0) (T := TX0) (N := 19) rfl 12 (by decide) (hts _ q1014) (fun x h => h) hv hd kk
theorem gf_1100 : gfOK RX0 100 1 1 14 := by
  intro p l e R s m args below meth c H locs cells slots Q pc ls rest D tys ws a q0 ci fs v hx hts hown hK hP he h1 h2 hv hd kk
  obtain rfl : ci = 0 := by omega
  exact va_get hx rfl hts in_X0 hown hK hP q0 he (C := RX0) (T := TX0) (N := 19) rfl 14 (by decide) (hts _ q1016) (fun x h => h) hv hd kk
theorem gf_1119 : gfOK RX0 119 2 2 1 := by
  intro p l e R s m args below meth c H locs cells slots Q pc ls rest D tys ws a q0 ci fs v hx hts hown hK hP he h1 h2 hv hd kk
  obtain rfl : ci = 1 := by omega
  exact va_get hx rfl hts in_X1 hown hK hP q0 he (C := RX1) (T := TX1) (N := 3) rfl 1 (by decide) (hts _ q352) (fun x h => h) hv hd kk
theorem gf_1122 : gfOK RX0 122 1 1 9 := by
  intro p l e R s m args below meth c H locs cells slots Q pc ls rest D tys ws a q0 ci fs v hx hts hown hK hP he h1 h2 hv hd kk
  obtain rfl : ci = 0 := by omega
  exact va_get hx rfl hts in_X0 hown hK hP q0 he (C := RX0) (T := TX0) (N := 19) rfl 9 (by decide) (hts _ q1011) (fun x h => h) hv hd kk
theorem gf_1129 : gfOK RX0 129 2 2 2 := by
  intro p l e R s m args below meth c H locs cells slots Q pc ls rest D tys ws a q0 ci fs v hx hts hown hK hP he h1 h2 hv hd kk
  obtain rfl : ci = 1 := by omega
  exact va_get hx rfl hts in_X1 hown hK hP q0 he (C := RX1) (T := TX1) (N := 3) rfl 2 (by decide) (hts _ q354) (fun x h => h) hv hd kk
theorem gf_1132 : gfOK RX0 132 15 15 17 := by
  intro p l e R s m args below meth c H locs cells slots Q pc ls rest D tys ws a q0 ci fs v hx hts hown hK hP he h1 h2 hv hd kk
  obtain rfl : ci = 14 := by omega
  exact va_get hx rfl hts in_X14 hown hK hP q0 he (C := RX14) (T := TX14) (N := 32) rfl 17 (by decide) (hts _ q866) (fun x h => h) hv hd kk
theorem gf_1135 : gfOK RX0 135 15 15 24 := by
  intro p l e R s m args below meth c H locs cells slots Q pc ls rest D tys ws a q0 ci fs v hx hts hown hK hP he h1 h2 hv hd kk
  obtain rfl : ci = 14 := by omega
  exact va_get hx rfl hts in_X14 hown hK hP q0 he (C := RX14) (T := TX14) (N := 32) rfl 24 (by decide) (hts _ q896) (fun x h => h) hv hd kk
theorem gf_1138 : gfOK RX0 138 15 15 7 := by
  intro p l e R s m args below meth c H locs cells slots Q pc ls rest D tys ws a q0 ci fs v hx hts hown hK hP he h1 h2 hv hd kk
  obtain rfl : ci = 14 := by omega
  exact va_get hx rfl hts in_X14 hown hK hP q0 he (C := RX14) (T := TX14) (N := 32) rfl 7 (by decide) (hts _ q835) (fun x h => h) hv hd kk
theorem gf_1141 : gfOK RX0 141 8 8 1 := by
  intro p l e R s m args below meth c H locs cells slots Q pc ls rest D tys ws a q0 ci fs v hx hts hown hK hP he h1 h2 hv hd kk
  obtain rfl : ci = 7 := by omega
  exact va_get hx rfl hts in_X7 hown hK hP q0 he (C := RX7) (T := TX7) (N := 25) rfl 1 (by decide) (hts _ q651) (fun x h => h) hv hd kk
theorem gf_1145 : gfOK RX0 145 9 9 1 := by
  intro p l e R s m args below meth c H locs cells slots Q pc ls rest D tys ws a q0 ci fs v hx hts hown hK hP he h1 h2 hv hd kk
  obtain rfl : ci = 8 := by omega
  exact va_get hx rfl hts in_X8 hown hK hP q0 he (C := RX8) (T := TX8) (N := 2) rfl 1 (by decide) (hts _ q542) (fun x h => h) hv hd kk
theorem gf_1148 : gfOK RX0 148 15 15 0 := by
  intro p l e R s m args below meth c H locs cells slots Q pc ls rest D tys ws a q0 ci fs v hx hts hown hK hP he h1 h2 hv hd kk
  obtain rfl : ci = 14 := by omega
  exact va_get hx rfl hts in_X14 hown hK hP q0 he (C := RX14) (T := TX14) (N := 32) rfl 0 (by decide) (hts _ q812) (fun x h => h) hv hd kk
theorem gf_1159 : gfOK RX0 159 8 8 6 := by
  intro p l e R s m args below meth c H locs cells slots Q pc ls rest D tys ws a q0 ci fs v hx hts hown hK hP he h1 h2 hv hd kk
  obtain rfl : ci = 7 := by omega
  exact va_get hx rfl hts in_X7 hown hK hP q0 he (C := RX7) (T := TX7) (N := 25) rfl 6 (by decide) (hts _ q659) (fun x h => h) hv hd kk
theorem gf_1163 : gfOK RX0 163 8 8 14 := by
  intro p l e R s m args below meth c H locs cells slots Q pc ls rest D tys ws a q0 ci fs v hx hts hown hK hP he h1 h2 hv hd kk
  obtain rfl : ci = 7 := by omega
  exact va_get hx rfl hts in_X7 hown hK hP q0 he (C := RX7) (T := TX7) (N := 25) rfl 14 (by decide) (hts _ q669) (fun x h => h) hv hd kk
theorem gf_1166 : gfOK RX0 166 15 15 31 := by
  intro p l e R s m args below meth c H locs cells slots Q pc ls rest D tys ws a q0 ci fs v hx hts hown hK hP he h1 h2 hv hd kk
  obtain rfl : ci = 14 := by omega
  exact va_get hx rfl hts in_X14 hown hK hP q0 he (C := RX14) (T := TX14) (N := 32) rfl 31 (by decide) (hts _ q931) (fun x h => h) hv hd kk
theorem gf_1169 : gfOK RX0 169 8 8 4 := by
  intro p l e R s m args below meth c H locs cells slots Q pc ls rest D tys ws a q0 ci fs v hx hts hown hK hP he h1 h2 hv hd kk
  obtain rfl : ci = 7 := by omega
  exact va_get hx rfl hts in_X7 hown hK hP q0 he (C := RX7) (T := TX7) (N := 25) rfl 4 (by decide) (hts _ q656) (fun x h => h) hv hd kk
theorem gf_1173 : gfOK RX0 173 15 15 23 := by
  intro p l e R s m args below meth c H locs cells slots Q pc ls rest D tys ws a q0 ci fs v hx hts hown hK hP he h1 h2 hv hd kk
  obtain rfl : ci = 14 := by omega
  exact va_get hx rfl hts in_X14 hown hK hP q0 he (C := RX14) (T := TX14) (N := 32) rfl 23 (by decide) (hts _ q892) (fun x h => h) hv hd kk
theorem gf_1180 : gfOK RX0 180 8 8 3 := by
  intro p l e R s m args below meth c H locs cells slots Q pc ls rest D tys ws a q0 ci fs v hx hts hown hK hP he h1 h2 hv hd kk
  obtain rfl : ci = 7 := by omega
  exact va_get hx rfl hts in_X7 hown hK hP q0 he (C := RX7) (T := TX7) (N := 25) rfl 3 (by decide) (hts _ q654) (fun x h => h) hv hd kk
theorem gf_1184 : gfOK RX0 184 12 12 0 := by
  intro p l e R s m args below meth c H locs cells slots Q pc ls rest D tys ws a q0 ci fs v hx hts hown hK hP he h1 h2 hv hd kk
  obtain rfl : ci = 11 := by omega
  exact va_get hx rfl hts in_X11 hown hK hP q0 he (C := RX11) (T := TX11) (N := 8) rfl 0 (by decide) (hts _ q596) (fun x h => u_same (hts _ q595) x h) hv hd kk
theorem gf_1192 : gfOK RX0 192 12 12 1 := by
  intro p l e R s m args below meth c H locs cells slots Q pc ls rest D tys ws a q0 ci fs v hx hts hown hK hP he h1 h2 hv hd kk
  obtain rfl : ci = 11 := by omega
  exact va_get hx rfl hts in_X11 hown hK hP q0 he (C := RX11) (T := TX11) (N := 8) rfl 1 (by decide) (hts _ q598) (fun x h => u_same (hts _ q599) x h) hv hd kk
theorem gf_1195 : gfOK RX0 195 12 12 2 := by
  intro p l e R s m args below meth c H locs cells slots Q pc ls rest D tys ws a q0 ci fs v hx hts hown hK hP he h1 h2 hv hd kk
  obtain rfl : ci = 11 := by omega
  exact va_get hx rfl hts in_X11 hown hK hP q0 he (C := RX11) (T := TX11) (N := 8) rfl 2 (by decide) (hts _ q605) (fun x h => u_same (hts _ q606) x h) hv hd kk
theorem gf_1198 : gfOK RX0 198 12 12 3 := by
  intro p l e R s m args below meth c H locs cells slots Q pc ls rest D tys ws a q0 ci fs v hx hts hown hK hP he h1 h2 hv hd kk
  obtain rfl : ci = 11 := by omega
  exact va_get hx rfl hts in_X11 hown hK hP q0 he (C := RX11) (T := TX11) (N := 8) rfl 3 (by decide) (hts _ q612) (fun x h => u_same (hts _ q613) x h) hv hd kk
theorem gf_1200 : gfOK RX0 200 12 12 4 := by
  intro p l e R s m args below meth c H locs cells slots Q pc ls rest D tys ws a q0 ci fs v hx hts hown hK hP he h1 h2 hv hd kk
  obtain rfl : ci = 11 := by omega
  exact va_get hx rfl hts in_X11 hown hK hP q0 he (C := RX11) (T := TX11) (N := 8) rfl 4 (by decide) (hts _ q582) (fun x h => h) hv hd kk
theorem gf_1203 : gfOK RX0 203 12 12 5 := by
  intro p l e R s m args below meth c H locs cells slots Q pc ls rest D tys ws a q0 ci fs v hx hts hown hK hP he h1 h2 hv hd kk
  obtain rfl : ci = 11 := by omega
  exact va_get hx rfl hts in_X11 hown hK hP q0 he (C := RX11) (T := TX11) (N := 8) rfl 5 (by decide) (hts _ q585) (fun x h => h) hv hd kk
theorem gf_1206 : gfOK RX0 206 12 12 6 := by
  intro p l e R s m args below meth c H locs cells slots Q pc ls rest D tys ws a q0 ci fs v hx hts hown hK hP he h1 h2 hv hd kk
  obtain rfl : ci = 11 := by omega
  exact va_get hx rfl hts in_X11 hown hK hP q0 he (C := RX11) (T := TX11) (N := 8) rfl 6 (by decide) (hts _ q588) (fun x h => h) hv hd kk
theorem gf_1209 : gfOK RX0 209 12 12 7 := by
  intro p l e R s m args below meth c H locs cells slots Q pc ls rest D tys ws a q0 ci fs v hx hts hown hK hP he h1 h2 hv hd kk
  obtain rfl : ci = 11 := by omega
  exact va_get hx rfl hts in_X11 hown hK hP q0 he (C := RX11) (T := TX11) (N := 8) rfl 7 (by decide) (hts _ q591) (fun x h => h) hv hd kk
theorem gf_1211 : gfOK RX0 211 8 8 9 := by
  intro p l e R s m args below meth c H locs cells slots Q pc ls rest D tys ws a q0 ci fs v hx hts hown hK hP he h1 h2 hv hd kk
  obtain rfl : ci = 7 := by omega
  exact va_get hx rfl hts in_X7 hown hK hP q0 he (C := RX7) (T := TX7) (N := 25) rfl 9 (by decide) (hts _ q663) (fun x h => h) hv hd kk
theorem gf_1215 : gfOK RX0 215 13 13 4 := by
  intro p l e R s m args below meth c H locs cells slots Q pc ls rest D tys ws a q0 ci fs v hx hts hown hK hP he h1 h2 hv hd kk
  obtain rfl : ci = 12 := by omega
  exact va_get hx rfl hts in_X12 hown hK hP q0 he (C := RX12) (T := TX12) (N := 5) rfl 4 (by decide) (hts _ q640) (fun x h => h) hv hd kk
theorem gf_1220 : gfOK RX0 220 13 13 1 := by
  intro p l e R s m args below meth c H locs cells slots Q pc ls rest D tys ws a q0 ci fs v hx hts hown hK hP he h1 h2 hv hd kk
  obtain rfl : ci = 12 := by omega
  exact va_get hx rfl hts in_X12 hown hK hP q0 he (C := RX12) (T := TX12) (N := 5) rfl 1 (by decide) (hts _ q600) (fun x h => u_same (hts _ q601) x h) hv hd kk
theorem gf_1221 : gfOK RX0 221 13 13 2 := by
  intro p l e R s m args below meth c H locs cells slots Q pc ls rest D tys ws a q0 ci fs v hx hts hown hK hP he h1 h2 hv hd kk
  obtain rfl : ci = 12 := by omega
  exact va_get hx rfl hts in_X12 hown hK hP q0 he (C := RX12) (T := TX12) (N := 5) rfl 2 (by decide) (hts _ q607) (fun x h => u_same (hts _ q608) x h) hv hd kk
theorem gf_1222 : gfOK RX0 222 1 1 16 := by
  intro p l e R s m args below meth c H locs cells slots Q pc ls rest D tys ws a q0 ci fs v hx hts hown hK hP he h1 h2 hv hd kk
  obtain rfl : ci = 0 := by omega
  exact va_get hx rfl hts in_X0 hown hK hP q0 he (C := RX0) (T := TX0) (N := 19) rfl 16 (by decide) (hts _ q1018) (fun x h => h) hv hd kk
theorem gf_1229 : gfOK RX0 229 1 1 17 := by
  intro p l e R s m args below meth c H locs cells slots Q pc ls rest D tys ws a q0 ci fs v hx hts hown hK hP he h1 h2 hv hd kk
  obtain rfl : ci = 0 := by omega
  exact va_get hx rfl hts in_X0 hown hK hP q0 he (C := RX0) (T := TX0) (N := 19) rfl 17 (by decide) (hts _ q1019) (fun x h => h) hv hd kk
theorem gf_1232 : gfOK RX0 232 1 1 18 := by
  intro p l e R s m args below meth c H locs cells slots Q pc ls rest D tys ws a q0 ci fs v hx hts hown hK hP he h1 h2 hv hd kk
  obtain rfl : ci = 0 := by omega
  exact va_get hx rfl hts in_X0 hown hK hP q0 he (C := RX0) (T := TX0) (N := 19) rfl 18 (by decide) (hts _ q1020) (fun x h => h) hv hd kk
theorem gf_1235 : gfOK RX0 235 14 14 16 := by
  intro p l e R s m args below meth c H locs cells slots Q pc ls rest D tys ws a q0 ci fs v hx hts hown hK hP he h1 h2 hv hd kk
  obtain rfl : ci = 13 := by omega
  exact va_get hx rfl hts in_X13 hown hK hP q0 he (C := RX13) (T := TX13) (N := 20) rfl 16 (by decide) (hts _ q756) (fun x h => h) hv hd kk
theorem gf_1238 : gfOK RX0 238 14 14 17 := by
  intro p l e R s m args below meth c H locs cells slots Q pc ls rest D tys ws a q0 ci fs v hx hts hown hK hP he h1 h2 hv hd kk
  obtain rfl : ci = 13 := by omega
  exact va_get hx rfl hts in_X13 hown hK hP q0 he (C := RX13) (T := TX13) (N := 20) rfl 17 (by decide) (hts _ q758) (fun x h => h) hv hd kk
theorem gf_1239 : gfOK RX0 239 14 14 18 := by
  intro p l e R s m args below meth c H locs cells slots Q pc ls rest D tys ws a q0 ci fs v hx hts hown hK hP he h1 h2 hv hd kk
  obtain rfl : ci = 13 := by omega
  exact va_get hx rfl hts in_X13 hown hK hP q0 he (C := RX13) (T := TX13) (N := 20) rfl 18 (by decide) (hts _ q760) (fun x h => h) hv hd kk
theorem gf_1241 : gfOK RX0 241 14 14 15 := by
  intro p l e R s m args below meth c H locs cells slots Q pc ls rest D tys ws a q0 ci fs v hx hts hown hK hP he h1 h2 hv hd kk
  obtain rfl : ci = 13 := by omega
  exact va_get hx rfl hts in_X13 hown hK hP q0 he (C := RX13) (T := TX13) (N := 20) rfl 15 (by decide) (hts _ q754) (fun x h => h) hv hd kk
theorem gf_1249 : gfOK RX0 249 14 14 14 := by
  intro p l e R s m args below meth c H locs cells slots Q pc ls rest D tys ws a q0 ci fs v hx hts hown hK hP he h1 h2 hv hd kk
  obtain rfl : ci = 13 := by omega
  exact va_get hx rfl hts in_X13 hown hK hP q0 he (C := RX13) (T := TX13) (N := 20) rfl 14 (by decide) (hts _ q752) (fun x h => h) hv hd kk
theorem gf_2010 : gfOK RX1 10 2 2 0 := by
  intro p l e R s m args below meth c H locs cells slots Q pc ls rest D tys ws a q0 ci fs v hx hts hown hK hP he h1 h2 hv hd kk
  obtain rfl : ci = 1 := by omega
  exact va_get hx rfl hts in_X1 hown hK hP q0 he (C := RX1) (T := TX1) (N := 3) rfl 0 (by decide) (hts _ q350) (fun x h => h) hv hd kk
theorem gf_3012 : gfOK RX2 12 3 3 2 := by
  intro p l e R s m args below meth c H locs cells slots Q pc ls rest D tys ws a q0 ci fs v hx hts hown hK hP he h1 h2 hv hd kk
  obtain rfl : ci = 2 := by omega
  exact va_get hx rfl hts in_X2 hown hK hP q0 he (C := RX2) (T := TX2) (N := 4) rfl 2 (by decide) (hts _ q389) (fun x h => h) hv hd kk
theorem gf_3018 : gfOK RX2 18 3 3 3 := by
  intro p l e R s m args below meth c H locs cells slots Q pc ls rest D tys ws a q0 ci fs v hx hts hown hK hP he h1 h2 hv hd kk
  obtain rfl : ci = 2 := by omega
  exact va_get hx rfl hts in_X2 hown hK hP q0 he (C := RX2) (T := TX2) (N := 4) rfl 3 (by decide) (hts _ q391) (fun x h => h) hv hd kk
theorem gf_3021 : gfOK RX2 21 3 3 0 := by
  intro p l e R s m args below meth c H locs cells slots Q pc ls rest D tys ws a q0 ci fs v hx hts hown hK hP he h1 h2 hv hd kk
  obtain rfl : ci = 2 := by omega
  exact va_get hx rfl hts in_X2 hown hK hP q0 he (C := RX2) (T := TX2) (N := 4) rfl 0 (by decide) (hts _ q387) (fun x h => h) hv hd kk
theorem gf_3025 : gfOK RX2 25 4 4 1 := by
  intro p l e R s m args below meth c H locs cells slots Q pc ls rest D tys ws a q0 ci fs v hx hts hown hK hP he h1 h2 hv hd kk
  obtain rfl : ci = 3 := by omega
  exact va_get hx rfl hts in_X3 hown hK hP q0 he (C := RX3) (T := TX3) (N := 2) rfl 1 (by decide) (hts _ q378) (fun x h => h) hv hd kk
theorem gf_3029 : gfOK RX2 29 3 3 1 := by
  intro p l e R s m args below meth c H locs cells slots Q pc ls rest D tys ws a q0 ci fs v hx hts hown hK hP he h1 h2 hv hd kk
  obtain rfl : ci = 2 := by omega
  exact va_get hx rfl hts in_X2 hown hK hP q0 he (C := RX2) (T := TX2) (N := 4) rfl 1 (by decide) (hts _ q388) (fun x h => h) hv hd kk
theorem gf_3066 : gfOK RX2 66 4 4 0 := by
  intro p l e R s m args below meth c H locs cells slots Q pc ls rest D tys ws a q0 ci fs v hx hts hown hK hP he h1 h2 hv hd kk
  obtain rfl : ci = 3 := by omega
  exact va_get hx rfl hts in_X3 hown hK hP q0 he (C := RX3) (T := TX3) (N := 2) rfl 0 (by decide) (hts _ q376) (fun x h => h) hv hd kk
theorem gf_4007 : gfOK RX3 7 4 4 0 := by
  intro p l e R s m args below meth c H locs cells slots Q pc ls rest D tys ws a q0 ci fs v hx hts hown hK hP he h1 h2 hv hd kk
  obtain rfl : ci = 3 := by omega
  exact va_get hx rfl hts in_X3 hown hK hP q0 he (C := RX3) (T := TX3) (N := 2) rfl 0 (by decide) (hts _ q374) (fun x h => h) hv hd kk
theorem gf_4013 : gfOK RX3 13 4 4 1 := by
  intro p l e R s m args below meth c H locs cells slots Q pc ls rest D tys ws a q0 ci fs v hx hts hown hK hP he h1 h2 hv hd kk
  obtain rfl : ci = 3 := by omega
  exact va_get hx rfl hts in_X3 hown hK hP q0 he (C := RX3) (T := TX3) (N := 2) rfl 1 (by decide) (hts _ q377) (fun x h => h) hv hd kk
theorem gf_5012 : gfOK RX4 12 5 5 3 := by
  intro p l e R s m args below meth c H locs cells slots Q pc ls rest D tys ws a q0 ci fs v hx hts hown hK hP he h1 h2 hv hd kk
  obtain rfl : ci = 4 := by omega
  exact va_get hx rfl hts in_X4 hown hK hP q0 he (C := RX4) (T := TX4) (N := 13) rfl 3 (by decide) (hts _ q413) (fun x h => h) hv hd kk
theorem gf_5018 : gfOK RX4 18 5 5 4 := by
  intro p l e R s m args below meth c H locs cells slots Q pc ls rest D tys ws a q0 ci fs v hx hts hown hK hP he h1 h2 hv hd kk
  obtain rfl : ci = 4 := by omega
  exact va_get hx rfl hts in_X4 hown hK hP q0 he (C := RX4) (T := TX4) (N := 13) rfl 4 (by decide) (hts _ q415) (fun x h => h) hv hd kk
theorem gf_5021 : gfOK RX4 21 5 5 5 := by
  intro p l e R s m args below meth c H locs cells slots Q pc ls rest D tys ws a q0 ci fs v hx hts hown hK hP he h1 h2 hv hd kk
  obtain rfl : ci = 4 := by omega
  exact va_get hx rfl hts in_X4 hown hK hP q0 he (C := RX4) (T := TX4) (N := 13) rfl 5 (by decide) (hts _ q417) (fun x h => h) hv hd kk
theorem gf_5024 : gfOK RX4 24 5 5 6 := by
  intro p l e R s m args below meth c H locs cells slots Q pc ls rest D tys ws a q0 ci fs v hx hts hown hK hP he h1 h2 hv hd kk
  obtain rfl : ci = 4 := by omega
  exact va_get hx rfl hts in_X4 hown hK hP q0 he (C := RX4) (T := TX4) (N := 13) rfl 6 (by decide) (hts _ q419) (fun x h => h) hv hd kk
theorem gf_5027 : gfOK RX4 27 5 5 7 := by
  intro p l e R s m args below meth c H locs cells slots Q pc ls rest D tys ws a q0 ci fs v hx hts hown hK hP he h1 h2 hv hd kk
  obtain rfl : ci = 4 := by omega
  exact va_get hx rfl hts in_X4 hown hK hP q0 he (C := RX4) (T := TX4) (N := 13) rfl 7 (by decide) (hts _ q421) (fun x h => h) hv hd kk
theorem gf_5030 : gfOK RX4 30 5 5 8 := by
  intro p l e R s m args below meth c H locs cells slots Q pc ls rest D tys ws a q0 ci fs v hx hts hown hK hP he h1 h2 hv hd kk
  obtain rfl : ci = 4 := by omega
  exact va_get hx rfl hts in_X4 hown hK hP q0 he (C := RX4) (T := TX4) (N := 13) rfl 8 (by decide) (hts _ q423) (fun x h => h) hv hd kk
theorem gf_5033 : gfOK RX4 33 5 5 9 := by
  intro p l e R s m args below meth c H locs cells slots Q pc ls rest D tys ws a q0 ci fs v hx hts hown hK hP he h1 h2 hv hd kk
  obtain rfl : ci = 4 := by omega
  exact va_get hx rfl hts in_X4 hown hK hP q0 he (C := RX4) (T := TX4) (N := 13) rfl 9 (by decide) (hts _ q425) (fun x h => h) hv hd kk
theorem gf_5036 : gfOK RX4 36 5 5 10 := by
  intro p l e R s m args below meth c H locs cells slots Q pc ls rest D tys ws a q0 ci fs v hx hts hown hK hP he h1 h2 hv hd kk
  obtain rfl : ci = 4 := by omega
  exact va_get hx rfl hts in_X4 hown hK hP q0 he (C := RX4) (T := TX4) (N := 13) rfl 10 (by decide) (hts _ q427) (fun x h => h) hv hd kk
theorem gf_5039 : gfOK RX4 39 5 5 11 := by
  intro p l e R s m args below meth c H locs cells slots Q pc ls rest D tys ws a q0 ci fs v hx hts hown hK hP he h1 h2 hv hd kk
  obtain rfl : ci = 4 := by omega
  exact va_get hx rfl hts in_X4 hown hK hP q0 he (C := RX4) (T := TX4) (N := 13) rfl 11 (by decide) (hts _ q429) (fun x h => h) hv hd kk
theorem gf_5042 : gfOK RX4 42 5 5 12 := by
  intro p l e R s m args below meth c H locs cells slots Q pc ls rest D tys ws a q0 ci fs v hx hts hown hK hP he h1 h2 hv hd kk
  obtain rfl : ci = 4 := by omega
  exact va_get hx rfl hts in_X4 hown hK hP q0 he (C := RX4) (T := TX4) (N := 13) rfl 12 (by decide) (hts _ q431) (fun x h => h) hv hd kk
theorem gf_5045 : gfOK RX4 45 5 5 0 := by
  intro p l e R s m args below meth c H locs cells slots Q pc ls rest D tys ws a q0 ci fs v hx hts hown hK hP he h1 h2 hv hd kk
  obtain rfl : ci = 4 := by omega
  exact va_get hx rfl hts in_X4 hown hK hP q0 he (C := RX4) (T := TX4) (N := 13) rfl 0 (by decide) (hts _ q410) (fun x h => h) hv hd kk
theorem gf_5049 : gfOK RX4 49 5 5 1 := by
  intro p l e R s m args below meth c H locs cells slots Q pc ls rest D tys ws a q0 ci fs v hx hts hown hK hP he h1 h2 hv hd kk
  obtain rfl : ci = 4 := by omega
  exact va_get hx rfl hts in_X4 hown hK hP q0 he (C := RX4) (T := TX4) (N := 13) rfl 1 (by decide) (hts _ q411) (fun x h => h) hv hd kk
theorem gf_5053 : gfOK RX4 53 5 5 2 := by
  intro p l e R s m args below meth c H locs cells slots Q pc ls rest D tys ws a q0 ci fs v hx hts hown hK hP he h1 h2 hv hd kk
  obtain rfl : ci = 4 := by omega
  exact va_get hx rfl hts in_X4 hown hK hP q0 he (C := RX4) (T := TX4) (N := 13) rfl 2 (by decide) (hts _ q412) (fun x h => h) hv hd kk
theorem gf_5099 : gfOK RX4 99 4 4 1 := by
  intro p l e R s m args below meth c H locs cells slots Q pc ls rest D tys ws a q0 ci fs v hx hts hown hK hP he h1 h2 hv hd kk
  obtain rfl : ci = 3 := by omega
  exact va_get hx rfl hts in_X3 hown hK hP q0 he (C := RX3) (T := TX3) (N := 2) rfl 1 (by decide) (hts _ q380) (fun x h => h) hv hd kk
theorem gf_6009 : gfOK RX5 9 6 6 4 := by
  intro p l e R s m args below meth c H locs cells slots Q pc ls rest D tys ws a q0 ci fs v hx hts hown hK hP he h1 h2 hv hd kk
  obtain rfl : ci = 5 := by omega
  exact va_get hx rfl hts in_X5 hown hK hP q0 he (C := RX5) (T := TX5) (N := 9) rfl 4 (by decide) (hts _ q472) (fun x h => h) hv hd kk
theorem gf_6015 : gfOK RX5 15 6 6 5 := by
  intro p l e R s m args below meth c H locs cells slots Q pc ls rest D tys ws a q0 ci fs v hx hts hown hK hP he h1 h2 hv hd kk
  obtain rfl : ci = 5 := by omega
  exact va_get hx rfl hts in_X5 hown hK hP q0 he (C := RX5) (T := TX5) (N := 9) rfl 5 (by decide) (hts _ q473) (fun x h => h) hv hd kk
theorem gf_6018 : gfOK RX5 18 6 6 6 := by
  intro p l e R s m args below meth c H locs cells slots Q pc ls rest D tys ws a q0 ci fs v hx hts hown hK hP he h1 h2 hv hd kk
  obtain rfl : ci = 5 := by omega
  exact va_get hx rfl hts in_X5 hown hK hP q0 he (C := RX5) (T := TX5) (N := 9) rfl 6 (by decide) (hts _ q474) (fun x h => h) hv hd kk
theorem gf_6024 : gfOK RX5 24 6 6 7 := by
  intro p l e R s m args below meth c H locs cells slots Q pc ls rest D tys ws a q0 ci fs v hx hts hown hK hP he h1 h2 hv hd kk
  obtain rfl : ci = 5 := by omega
  exact va_get hx rfl hts in_X5 hown hK hP q0 he (C := RX5) (T := TX5) (N := 9) rfl 7 (by decide) (hts _ q475) (fun x h => h) hv hd kk
theorem gf_6028 : gfOK RX5 28 6 6 8 := by
  intro p l e R s m args below meth c H locs cells slots Q pc ls rest D tys ws a q0 ci fs v hx hts hown hK hP he h1 h2 hv hd kk
  obtain rfl : ci = 5 := by omega
  exact va_get hx rfl hts in_X5 hown hK hP q0 he (C := RX5) (T := TX5) (N := 9) rfl 8 (by decide) (hts _ q476) (fun x h => h) hv hd kk
theorem gf_6031 : gfOK RX5 31 6 6 0 := by
  intro p l e R s m args below meth c H locs cells slots Q pc ls rest D tys ws a q0 ci fs v hx hts hown hK hP he h1 h2 hv hd kk
  obtain rfl : ci = 5 := by omega
  exact va_get hx rfl hts in_X5 hown hK hP q0 he (C := RX5) (T := TX5) (N := 9) rfl 0 (by decide) (hts _ q468) (fun x h => h) hv hd kk
theorem gf_6035 : gfOK RX5 35 6 6 1 := by
  intro p l e R s m args below meth c H locs cells slots Q pc ls rest D tys ws a q0 ci fs v hx hts hown hK hP he h1 h2 hv hd kk
  obtain rfl : ci = 5 := by omega
  exact va_get hx rfl hts in_X5 hown hK hP q0 he (C := RX5) (T := TX5) (N := 9) rfl 1 (by decide) (hts _ q469) (fun x h => h) hv hd kk
theorem gf_6039 : gfOK RX5 39 6 6 2 := by
  intro p l e R s m args below meth c H locs cells slots Q pc ls rest D tys ws a q0 ci fs v hx hts hown hK hP he h1 h2 hv hd kk
  obtain rfl : ci = 5 := by omega
  exact va_get hx rfl hts in_X5 hown hK hP q0 he (C := RX5) (T := TX5) (N := 9) rfl 2 (by decide) (hts _ q470) (fun x h => h) hv hd kk
theorem gf_6049 : gfOK RX5 49 6 6 3 := by
  intro p l e R s m args below meth c H locs cells slots Q pc ls rest D tys ws a q0 ci fs v hx hts hown hK hP he h1 h2 hv hd kk
  obtain rfl : ci = 5 := by omega
  exact va_get hx rfl hts in_X5 hown hK hP q0 he (C := RX5) (T := TX5) (N := 9) rfl 3 (by decide) (hts _ q471) (fun x h => h) hv hd kk
theorem gf_6058 : gfOK RX5 58 5 5 3 := by
  intro p l e R s m args below meth c H locs cells slots Q pc ls rest D tys ws a q0 ci fs v hx hts hown hK hP he h1 h2 hv hd kk
  obtain rfl : ci = 4 := by omega
  exact va_get hx rfl hts in_X4 hown hK hP q0 he (C := RX4) (T := TX4) (N := 13) rfl 3 (by decide) (hts _ q414) (fun x h => h) hv hd kk
theorem gf_6063 : gfOK RX5 63 4 4 1 := by
  intro p l e R s m args below meth c H locs cells slots Q pc ls rest D tys ws a q0 ci fs v hx hts hown hK hP he h1 h2 hv hd kk
  obtain rfl : ci = 3 := by omega
  exact va_get hx rfl hts in_X3 hown hK hP q0 he (C := RX3) (T := TX3) (N := 2) rfl 1 (by decide) (hts _ q379) (fun x h => h) hv hd kk
theorem gf_6071 : gfOK RX5 71 5 5 4 := by
  intro p l e R s m args below meth c H locs cells slots Q pc ls rest D tys ws a q0 ci fs v hx hts hown hK hP he h1 h2 hv hd kk
  obtain rfl : ci = 4 := by omega
  exact va_get hx rfl hts in_X4 hown hK hP q0 he (C := RX4) (T := TX4) (N := 13) rfl 4 (by decide) (hts _ q416) (fun x h => h) hv hd kk
theorem gf_6074 : gfOK RX5 74 4 4 0 := by
  intro p l e R s m args below meth c H locs cells slots Q pc ls rest D tys ws a q0 ci fs v hx hts hown hK hP he h1 h2 hv hd kk
  obtain rfl : ci = 3 := by omega
  exact va_get hx rfl hts in_X3 hown hK hP q0 he (C := RX3) (T := TX3) (N := 2) rfl 0 (by decide) (hts _ q375) (fun x h => h) hv hd kk
theorem gf_6081 : gfOK RX5 81 15 15 7 := by
  intro p l e R s m args below meth c H locs cells slots Q pc ls rest D tys ws a q0 ci fs v hx hts hown hK hP he h1 h2 hv hd kk
  obtain rfl : ci = 14 := by omega
  exact va_get hx rfl hts in_X14 hown hK hP q0 he (C := RX14) (T := TX14) (N := 32) rfl 7 (by decide) (hts _ q834) (fun x h => h) hv hd kk
theorem gf_6096 : gfOK RX5 96 15 15 0 := by
  intro p l e R s m args below meth c H locs cells slots Q pc ls rest D tys ws a q0 ci fs v hx hts hown hK hP he h1 h2 hv hd kk
  obtain rfl : ci = 14 := by omega
  exact va_get hx rfl hts in_X14 hown hK hP q0 he (C := RX14) (T := TX14) (N := 32) rfl 0 (by decide) (hts _ q811) (fun x h => h) hv hd kk
theorem gf_6098 : gfOK RX5 98 3 3 2 := by
  intro p l e R s m args below meth c H locs cells slots Q pc ls rest D tys ws a q0 ci fs v hx hts hown hK hP he h1 h2 hv hd kk
  obtain rfl : ci = 2 := by omega
  exact va_get hx rfl hts in_X2 hown hK hP q0 he (C := RX2) (T := TX2) (N := 4) rfl 2 (by decide) (hts _ q390) (fun x h => h) hv hd kk
theorem gf_6101 : gfOK RX5 101 3 3 3 := by
  intro p l e R s m args below meth c H locs cells slots Q pc ls rest D tys ws a q0 ci fs v hx hts hown hK hP he h1 h2 hv hd kk
  obtain rfl : ci = 2 := by omega
  exact va_get hx rfl hts in_X2 hown hK hP q0 he (C := RX2) (T := TX2) (N := 4) rfl 3 (by decide) (hts _ q392) (fun x h => h) hv hd kk
theorem gf_6119 : gfOK RX5 119 15 15 1 := by
  intro p l e R s m args below meth c H locs cells slots Q pc ls rest D tys ws a q0 ci fs v hx hts hown hK hP he h1 h2 hv hd kk
  obtain rfl : ci = 14 := by omega
  exact va_get hx rfl hts in_X14 hown hK hP q0 he (C := RX14) (T := TX14) (N := 32) rfl 1 (by decide) (hts _ q814) (fun x h => h) hv hd kk
theorem gf_6135 : gfOK RX5 135 15 15 2 := by
  intro p l e R s m args below meth c H locs cells slots Q pc ls rest D tys ws a q0 ci fs v hx hts hown hK hP he h1 h2 hv hd kk
  obtain rfl : ci = 14 := by omega
  exact va_get hx rfl hts in_X14 hown hK hP q0 he (C := RX14) (T := TX14) (N := 32) rfl 2 (by decide) (hts _ q816) (fun x h => h) hv hd kk
theorem gf_6138 : gfOK RX5 138 15 15 3 := by
  intro p l e R s m args below meth c H locs cells slots Q pc ls rest D tys ws a q0 ci fs v hx hts hown hK hP he h1 h2 hv hd kk
  obtain rfl : ci = 14 := by omega
  exact va_get hx rfl hts in_X14 hown hK hP q0 he (C := RX14) (T := TX14) (N := 32) rfl 3 (by decide) (hts _ q819) (fun x h => h) hv hd kk
theorem gf_6141 : gfOK RX5 141 15 15 8 := by
  intro p l e R s m args below meth c H locs cells slots Q pc ls rest D tys ws a q0 ci fs v hx hts hown hK hP he h1 h2 hv hd kk
  obtain rfl : ci = 14 := by omega
  exact va_get hx rfl hts in_X14 hown hK hP q0 he (C := RX14) (T := TX14) (N := 32) rfl 8 (by decide) (hts _ q837) (fun x h => h) hv hd kk
theorem gf_6148 : gfOK RX5 148 5 5 6 := by
  intro p l e R s m args below meth c H locs cells slots Q pc ls rest D tys ws a q0 ci fs v hx hts hown hK hP he h1 h2 hv hd kk
  obtain rfl : ci = 4 := by omega
  exact va_get hx rfl hts in_X4 hown hK hP q0 he (C := RX4) (T := TX4) (N := 13) rfl 6 (by decide) (hts _ q420) (fun x h => h) hv hd kk
theorem gf_6151 : gfOK RX5 151 5 5 5 := by
  intro p l e R s m args below meth c H locs cells slots Q pc ls rest D tys ws a q0 ci fs v hx hts hown hK hP he h1 h2 hv hd kk
  obtain rfl : ci = 4 := by omega
  exact va_get hx rfl hts in_X4 hown hK hP q0 he (C := RX4) (T := TX4) (N := 13) rfl 5 (by decide) (hts _ q418) (fun x h => h) hv hd kk
theorem gf_6168 : gfOK RX5 168 15 15 4 := by
  intro p l e R s m args below meth c H locs cells slots Q pc ls rest D tys ws a q0 ci fs v hx hts hown hK hP he h1 h2 hv hd kk
  obtain rfl : ci = 14 := by omega
  exact va_get hx rfl hts in_X14 hown hK hP q0 he (C := RX14) (T := TX14) (N := 32) rfl 4 (by decide) (hts _ q823) (fun x h => h) hv hd kk
theorem gf_6174 : gfOK RX5 174 15 15 5 := by
  intro p l e R s m args below meth c H locs cells slots Q pc ls rest D tys ws a q0 ci fs v hx hts hown hK hP he h1 h2 hv hd kk
  obtain rfl : ci = 14 := by omega
  exact va_get hx rfl hts in_X14 hown hK hP q0 he (C := RX14) (T := TX14) (N := 32) rfl 5 (by decide) (hts _ q826) (fun x h => h) hv hd kk
theorem gf_6183 : gfOK RX5 183 15 15 10 := by
  intro p l e R s m args below meth c H locs cells slots Q pc ls rest D tys ws a q0 ci fs v hx hts hown hK hP he h1 h2 hv hd kk
  obtain rfl : ci = 14 := by omega
  exact va_get hx rfl hts in_X14 hown hK hP q0 he (C := RX14) (T := TX14) (N := 32) rfl 10 (by decide) (hts _ q841) (fun x h => h) hv hd kk
theorem gf_6190 : gfOK RX5 190 5 5 7 := by
  intro p l e R s m args below meth c H locs cells slots Q pc ls rest D tys ws a q0 ci fs v hx hts hown hK hP he h1 h2 hv hd kk
  obtain rfl : ci = 4 := by omega
  exact va_get hx rfl hts in_X4 hown hK hP q0 he (C := RX4) (T := TX4) (N := 13) rfl 7 (by decide) (hts _ q422) (fun x h => h) hv hd kk
theorem gf_6193 : gfOK RX5 193 15 15 12 := by
  intro p l e R s m args below meth c H locs cells slots Q pc ls rest D tys ws a q0 ci fs v hx hts hown hK hP he h1 h2 hv hd kk
  obtain rfl : ci = 14 := by omega
  exact va_get hx rfl hts in_X14 hown hK hP q0 he (C := RX14) (T := TX14) (N := 32) rfl 12 (by decide) (hts _ q849) (fun x h => h) hv hd kk
theorem gf_6199 : gfOK RX5 199 15 15 13 := by
  intro p l e R s m args below meth c H locs cells slots Q pc ls rest D tys ws a q0 ci fs v hx hts hown hK hP he h1 h2 hv hd kk
  obtain rfl : ci = 14 := by omega
  exact va_get hx rfl hts in_X14 hown hK hP q0 he (C := RX14) (T := TX14) (N := 32) rfl 13 (by decide) (hts _ q852) (fun x h => h) hv hd kk
theorem gf_6211 : gfOK RX5 211 15 15 11 := by
  intro p l e R s m args below meth c H locs cells slots Q pc ls rest D tys ws a q0 ci fs v hx hts hown hK hP he h1 h2 hv hd kk
  obtain rfl : ci = 14 := by omega
  exact va_get hx rfl hts in_X14 hown hK hP q0 he (C := RX14) (T := TX14) (N := 32) rfl 11 (by decide) (hts _ q845) (fun x h => h) hv hd kk
theorem gf_6214 : gfOK RX5 214 15 15 14 := by
  intro p l e R s m args below meth c H locs cells slots Q pc ls rest D tys ws a q0 ci fs v hx hts hown hK hP he h1 h2 hv hd kk
  obtain rfl : ci = 14 := by omega
  exact va_get hx rfl hts in_X14 hown hK hP q0 he (C := RX14) (T := TX14) (N := 32) rfl 14 (by decide) (hts _ q855) (fun x h => h) hv hd kk
theorem gf_6217 : gfOK RX5 217 15 15 9 := by
  intro p l e R s m args below meth c H locs cells slots Q pc ls rest D tys ws a q0 ci fs v hx hts hown hK hP he h1 h2 hv hd kk
  obtain rfl : ci = 14 := by omega
  exact va_get hx rfl hts in_X14 hown hK hP q0 he (C := RX14) (T := TX14) (N := 32) rfl 9 (by decide) (hts _ q839) (fun x h => h) hv hd kk
theorem gf_6223 : gfOK RX5 223 5 5 8 := by
  intro p l e R s m args below meth c H locs cells slots Q pc ls rest D tys ws a q0 ci fs v hx hts hown hK hP he h1 h2 hv hd kk
  obtain rfl : ci = 4 := by omega
  exact va_get hx rfl hts in_X4 hown hK hP q0 he (C := RX4) (T := TX4) (N := 13) rfl 8 (by decide) (hts _ q424) (fun x h => h) hv hd kk
theorem gf_6227 : gfOK RX5 227 15 15 17 := by
  intro p l e R s m args below meth c H locs cells slots Q pc ls rest D tys ws a q0 ci fs v hx hts hown hK hP he h1 h2 hv hd kk
  obtain rfl : ci = 14 := by omega
  exact va_get hx rfl hts in_X14 hown hK hP q0 he (C := RX14) (T := TX14) (N := 32) rfl 17 (by decide) (hts _ q867) (fun x h => h) hv hd kk
theorem gf_6228 : gfOK RX5 228 5 5 10 := by
  intro p l e R s m args below meth c H locs cells slots Q pc ls rest D tys ws a q0 ci fs v hx hts hown hK hP he h1 h2 hv hd kk
  obtain rfl : ci = 4 := by omega
  exact va_get hx rfl hts in_X4 hown hK hP q0 he (C := RX4) (T := TX4) (N := 13) rfl 10 (by decide) (hts _ q428) (fun x h => h) hv hd kk
theorem gf_6231 : gfOK RX5 231 5 5 11 := by
  intro p l e R s m args below meth c H locs cells slots Q pc ls rest D tys ws a q0 ci fs v hx hts hown hK hP he h1 h2 hv hd kk
  obtain rfl : ci = 4 := by omega
  exact va_get hx rfl hts in_X4 hown hK hP q0 he (C := RX4) (T := TX4) (N := 13) rfl 11 (by decide) (hts _ q430) (fun x h => h) hv hd kk
theorem gf_6243 : gfOK RX5 243 15 15 15 := by
  intro p l e R s m args below meth c H locs cells slots Q pc ls rest D tys ws a q0 ci fs v hx hts hown hK hP he h1 h2 hv hd kk
  obtain rfl : ci = 14 := by omega
  exact va_get hx rfl hts in_X14 hown hK hP q0 he (C := RX14) (T := TX14) (N := 32) rfl 15 (by decide) (hts _ q860) (fun x h => h) hv hd kk
theorem gf_6249 : gfOK RX5 249 5 5 12 := by
  intro p l e R s m args below meth c H locs cells slots Q pc ls rest D tys ws a q0 ci fs v hx hts hown hK hP he h1 h2 hv hd kk
  obtain rfl : ci = 4 := by omega
  exact va_get hx rfl hts in_X4 hown hK hP q0 he (C := RX4) (T := TX4) (N := 13) rfl 12 (by decide) (hts _ q432) (fun x h => h) hv hd kk
theorem gf_6256 : gfOK RX5 256 15 15 16 := by
  intro p l e R s m args below meth c H locs cells slots Q pc ls rest D tys ws a q0 ci fs v hx hts hown hK hP he h1 h2 hv hd kk
  obtain rfl : ci = 14 := by omega
  exact va_get hx rfl hts in_X14 hown hK hP q0 he (C := RX14) (T := TX14) (N := 32) rfl 16 (by decide) (hts _ q863) (fun x h => h) hv hd kk
theorem gf_6262 : gfOK RX5 262 5 5 9 := by
  intro p l e R s m args below meth c H locs cells slots Q pc ls rest D tys ws a q0 ci fs v hx hts hown hK hP he h1 h2 hv hd kk
  obtain rfl : ci = 4 := by omega
  exact va_get hx rfl hts in_X4 hown hK hP q0 he (C := RX4) (T := TX4) (N := 13) rfl 9 (by decide) (hts _ q426) (fun x h => h) hv hd kk
theorem gf_6265 : gfOK RX5 265 15 15 26 := by
  intro p l e R s m args below meth c H locs cells slots Q pc ls rest D tys ws a q0 ci fs v hx hts hown hK hP he h1 h2 hv hd kk
  obtain rfl : ci = 14 := by omega
  exact va_get hx rfl hts in_X14 hown hK hP q0 he (C := RX14) (T := TX14) (N := 32) rfl 26 (by decide) (hts _ q907) (fun x h => h) hv hd kk
theorem gf_6271 : gfOK RX5 271 15 15 27 := by
  intro p l e R s m args below meth c H locs cells slots Q pc ls rest D tys ws a q0 ci fs v hx hts hown hK hP he h1 h2 hv hd kk
  obtain rfl : ci = 14 := by omega
  exact va_get hx rfl hts in_X14 hown hK hP q0 he (C := RX14) (T := TX14) (N := 32) rfl 27 (by decide) (hts _ q912) (fun x h => h) hv hd kk
theorem gf_6274 : gfOK RX5 274 15 15 28 := by
  intro p l e R s m args below meth c H locs cells slots Q pc ls rest D tys ws a q0 ci fs v hx hts hown hK hP he h1 h2 hv hd kk
  obtain rfl : ci = 14 := by omega
  exact va_get hx rfl hts in_X14 hown hK hP q0 he (C := RX14) (T := TX14) (N := 32) rfl 28 (by decide) (hts _ q917) (fun x h => h) hv hd kk
theorem gf_6277 : gfOK RX5 277 15 15 29 := by
  intro p l e R s m args below meth c H locs cells slots Q pc ls rest D tys ws a q0 ci fs v hx hts hown hK hP he h1 h2 hv hd kk
  obtain rfl : ci = 14 := by omega
  exact va_get hx rfl hts in_X14 hown hK hP q0 he (C := RX14) (T := TX14) (N := 32) rfl 29 (by decide) (hts _ q922) (fun x h => h) hv hd kk
theorem gf_6280 : gfOK RX5 280 15 15 30 := by
  intro p l e R s m args below meth c H locs cells slots Q pc ls rest D tys ws a q0 ci fs v hx hts hown hK hP he h1 h2 hv hd kk
  obtain rfl : ci = 14 := by omega
  exact va_get hx rfl hts in_X14 hown hK hP q0 he (C := RX14) (T := TX14) (N := 32) rfl 30 (by decide) (hts _ q927) (fun x h => h) hv hd kk
theorem gf_6283 : gfOK RX5 283 15 15 24 := by
  intro p l e R s m args below meth c H locs cells slots Q pc ls rest D tys ws a q0 ci fs v hx hts hown hK hP he h1 h2 hv hd kk
  obtain rfl : ci = 14 := by omega
  exact va_get hx rfl hts in_X14 hown hK hP q0 he (C := RX14) (T := TX14) (N := 32) rfl 24 (by decide) (hts _ q897) (fun x h => h) hv hd kk
theorem gf_6286 : gfOK RX5 286 15 15 18 := by
  intro p l e R s m args below meth c H locs cells slots Q pc ls rest D tys ws a q0 ci fs v hx hts hown hK hP he h1 h2 hv hd kk
  obtain rfl : ci = 14 := by omega
  exact va_get hx rfl hts in_X14 hown hK hP q0 he (C := RX14) (T := TX14) (N := 32) rfl 18 (by decide) (hts _ q872) (fun x h => h) hv hd kk
theorem gf_6289 : gfOK RX5 289 15 15 21 := by
  intro p l e R s m args below meth c H locs cells slots Q pc ls rest D tys ws a q0 ci fs v hx hts hown hK hP he h1 h2 hv hd kk
  obtain rfl : ci = 14 := by omega
  exact va_get hx rfl hts in_X14 hown hK hP q0 he (C := RX14) (T := TX14) (N := 32) rfl 21 (by decide) (hts _ q885) (fun x h => h) hv hd kk
theorem gf_6292 : gfOK RX5 292 15 15 22 := by
  intro p l e R s m args below meth c H locs cells slots Q pc ls rest D tys ws a q0 ci fs v hx hts hown hK hP he h1 h2 hv hd kk
  obtain rfl : ci = 14 := by omega
  exact va_get hx rfl hts in_X14 hown hK hP q0 he (C := RX14) (T := TX14) (N := 32) rfl 22 (by decide) (hts _ q889) (fun x h => h) hv hd kk
theorem gf_6295 : gfOK RX5 295 15 15 20 := by
  intro p l e R s m args below meth c H locs cells slots Q pc ls rest D tys ws a q0 ci fs v hx hts hown hK hP he h1 h2 hv hd kk
  obtain rfl : ci = 14 := by omega
  exact va_get hx rfl hts in_X14 hown hK hP q0 he (C := RX14) (T := TX14) (N := 32) rfl 20 (by decide) (hts _ q882) (fun x h => h) hv hd kk
theorem gf_6297 : gfOK RX5 297 15 15 19 := by
  intro p l e R s m args below meth c H locs cells slots Q pc ls rest D tys ws a q0 ci fs v hx hts hown hK hP he h1 h2 hv hd kk
  obtain rfl : ci = 14 := by omega
  exact va_get hx rfl hts in_X14 hown hK hP q0 he (C := RX14) (T := TX14) (N := 32) rfl 19 (by decide) (hts _ q877) (fun x h => h) hv hd kk
theorem gf_6303 : gfOK RX5 303 15 15 25 := by
  intro p l e R s m args below meth c H locs cells slots Q pc ls rest D tys ws a q0 ci fs v hx hts hown hK hP he h1 h2 hv hd kk
  obtain rfl : ci = 14 := by omega
  exact va_get hx rfl hts in_X14 hown hK hP q0 he (C := RX14) (T := TX14) (N := 32) rfl 25 (by decide) (hts _ q902) (fun x h => h) hv hd kk
theorem gf_6316 : gfOK RX5 316 15 15 31 := by
  intro p l e R s m args below meth c H locs cells slots Q pc ls rest D tys ws a q0 ci fs v hx hts hown hK hP he h1 h2 hv hd kk
  obtain rfl : ci = 14 := by omega
  exact va_get hx rfl hts in_X14 hown hK hP q0 he (C := RX14) (T := TX14) (N := 32) rfl 31 (by decide) (hts _ q932) (fun x h => h) hv hd kk
theorem gf_6321 : gfOK RX5 321 15 15 6 := by
  intro p l e R s m args below meth c H locs cells slots Q pc ls rest D tys ws a q0 ci fs v hx hts hown hK hP he h1 h2 hv hd kk
  obtain rfl : ci = 14 := by omega
  exact va_get hx rfl hts in_X14 hown hK hP q0 he (C := RX14) (T := TX14) (N := 32) rfl 6 (by decide) (hts _ q831) (fun x h => h) hv hd kk
theorem gf_7009 : gfOK RX6 9 7 7 2 := by
  intro p l e R s m args below meth c H locs cells slots Q pc ls rest D tys ws a q0 ci fs v hx hts hown hK hP he h1 h2 hv hd kk
  obtain rfl : ci = 6 := by omega
  exact va_get hx rfl hts in_X6 hown hK hP q0 he (C := RX6) (T := TX6) (N := 8) rfl 2 (by decide) (hts _ q504) (fun x h => h) hv hd kk
theorem gf_7015 : gfOK RX6 15 7 7 3 := by
  intro p l e R s m args below meth c H locs cells slots Q pc ls rest D tys ws a q0 ci fs v hx hts hown hK hP he h1 h2 hv hd kk
  obtain rfl : ci = 6 := by omega
  exact va_get hx rfl hts in_X6 hown hK hP q0 he (C := RX6) (T := TX6) (N := 8) rfl 3 (by decide) (hts _ q505) (fun x h => h) hv hd kk
theorem gf_7019 : gfOK RX6 19 7 7 4 := by
  intro p l e R s m args below meth c H locs cells slots Q pc ls rest D tys ws a q0 ci fs v hx hts hown hK hP he h1 h2 hv hd kk
  obtain rfl : ci = 6 := by omega
  exact va_get hx rfl hts in_X6 hown hK hP q0 he (C := RX6) (T := TX6) (N := 8) rfl 4 (by decide) (hts _ q506) (fun x h => h) hv hd kk
theorem gf_7022 : gfOK RX6 22 7 7 5 := by
  intro p l e R s m args below meth c H locs cells slots Q pc ls rest D tys ws a q0 ci fs v hx hts hown hK hP he h1 h2 hv hd kk
  obtain rfl : ci = 6 := by omega
  exact va_get hx rfl hts in_X6 hown hK hP q0 he (C := RX6) (T := TX6) (N := 8) rfl 5 (by decide) (hts _ q507) (fun x h => h) hv hd kk
theorem gf_7025 : gfOK RX6 25 7 7 0 := by
  intro p l e R s m args below meth c H locs cells slots Q pc ls rest D tys ws a q0 ci fs v hx hts hown hK hP he h1 h2 hv hd kk
  obtain rfl : ci = 6 := by omega
  exact va_get hx rfl hts in_X6 hown hK hP q0 he (C := RX6) (T := TX6) (N := 8) rfl 0 (by decide) (hts _ q502) (fun x h => h) hv hd kk
theorem gf_7029 : gfOK RX6 29 7 7 1 := by
  intro p l e R s m args below meth c H locs cells slots Q pc ls rest D tys ws a q0 ci fs v hx hts hown hK hP he h1 h2 hv hd kk
  obtain rfl : ci = 6 := by omega
  exact va_get hx rfl hts in_X6 hown hK hP q0 he (C := RX6) (T := TX6) (N := 8) rfl 1 (by decide) (hts _ q503) (fun x h => h) hv hd kk
theorem gf_7033 : gfOK RX6 33 15 15 7 := by
  intro p l e R s m args below meth c H locs cells slots Q pc ls rest D tys ws a q0 ci fs v hx hts hown hK hP he h1 h2 hv hd kk
  obtain rfl : ci = 14 := by omega
  exact va_get hx rfl hts in_X14 hown hK hP q0 he (C := RX14) (T := TX14) (N := 32) rfl 7 (by decide) (hts _ q832) (fun x h => h) hv hd kk
theorem gf_7039 : gfOK RX6 39 15 15 26 := by
  intro p l e R s m args below meth c H locs cells slots Q pc ls rest D tys ws a q0 ci fs v hx hts hown hK hP he h1 h2 hv hd kk
  obtain rfl : ci = 14 := by omega
  exact va_get hx rfl hts in_X14 hown hK hP q0 he (C := RX14) (T := TX14) (N := 32) rfl 26 (by decide) (hts _ q903) (fun x h => h) hv hd kk
theorem gf_7042 : gfOK RX6 42 15 15 22 := by
  intro p l e R s m args below meth c H locs cells slots Q pc ls rest D tys ws a q0 ci fs v hx hts hown hK hP he h1 h2 hv hd kk
  obtain rfl : ci = 14 := by omega
  exact va_get hx rfl hts in_X14 hown hK hP q0 he (C := RX14) (T := TX14) (N := 32) rfl 22 (by decide) (hts _ q887) (fun x h => h) hv hd kk
theorem gf_7045 : gfOK RX6 45 15 15 27 := by
  intro p l e R s m args below meth c H locs cells slots Q pc ls rest D tys ws a q0 ci fs v hx hts hown hK hP he h1 h2 hv hd kk
  obtain rfl : ci = 14 := by omega
  exact va_get hx rfl hts in_X14 hown hK hP q0 he (C := RX14) (T := TX14) (N := 32) rfl 27 (by decide) (hts _ q909) (fun x h => h) hv hd kk
theorem gf_7055 : gfOK RX6 55 15 15 15 := by
  intro p l e R s m args below meth c H locs cells slots Q pc ls rest D tys ws a q0 ci fs v hx hts hown hK hP he h1 h2 hv hd kk
  obtain rfl : ci = 14 := by omega
  exact va_get hx rfl hts in_X14 hown hK hP q0 he (C := RX14) (T := TX14) (N := 32) rfl 15 (by decide) (hts _ q857) (fun x h => h) hv hd kk
theorem gf_7058 : gfOK RX6 58 15 15 16 := by
  intro p l e R s m args below meth c H locs cells slots Q pc ls rest D tys ws a q0 ci fs v hx hts hown hK hP he h1 h2 hv hd kk
  obtain rfl : ci = 14 := by omega
  exact va_get hx rfl hts in_X14 hown hK hP q0 he (C := RX14) (T := TX14) (N := 32) rfl 16 (by decide) (hts _ q862) (fun x h => h) hv hd kk
theorem gf_7065 : gfOK RX6 65 7 7 7 := by
  intro p l e R s m args below meth c H locs cells slots Q pc ls rest D tys ws a q0 ci fs v hx hts hown hK hP he h1 h2 hv hd kk
  obtain rfl : ci = 6 := by omega
  exact va_get hx rfl hts in_X6 hown hK hP q0 he (C := RX6) (T := TX6) (N := 8) rfl 7 (by decide) (hts _ q509) (fun x h => h) hv hd kk
theorem gf_7076 : gfOK RX6 76 15 15 29 := by
  intro p l e R s m args below meth c H locs cells slots Q pc ls rest D tys ws a q0 ci fs v hx hts hown hK hP he h1 h2 hv hd kk
  obtain rfl : ci = 14 := by omega
  exact va_get hx rfl hts in_X14 hown hK hP q0 he (C := RX14) (T := TX14) (N := 32) rfl 29 (by decide) (hts _ q919) (fun x h => h) hv hd kk
theorem gf_7079 : gfOK RX6 79 15 15 21 := by
  intro p l e R s m args below meth c H locs cells slots Q pc ls rest D tys ws a q0 ci fs v hx hts hown hK hP he h1 h2 hv hd kk
  obtain rfl : ci = 14 := by omega
  exact va_get hx rfl hts in_X14 hown hK hP q0 he (C := RX14) (T := TX14) (N := 32) rfl 21 (by decide) (hts _ q884) (fun x h => h) hv hd kk
theorem gf_7088 : gfOK RX6 88 15 15 23 := by
  intro p l e R s m args below meth c H locs cells slots Q pc ls rest D tys ws a q0 ci fs v hx hts hown hK hP he h1 h2 hv hd kk
  obtain rfl : ci = 14 := by omega
  exact va_get hx rfl hts in_X14 hown hK hP q0 he (C := RX14) (T := TX14) (N := 32) rfl 23 (by decide) (hts _ q891) (fun x h => h) hv hd kk
theorem gf_7091 : gfOK RX6 91 15 15 28 := by
  intro p l e R s m args below meth c H locs cells slots Q pc ls rest D tys ws a q0 ci fs v hx hts hown hK hP he h1 h2 hv hd kk
  obtain rfl : ci = 14 := by omega
  exact va_get hx rfl hts in_X14 hown hK hP q0 he (C := RX14) (T := TX14) (N := 32) rfl 28 (by decide) (hts _ q914) (fun x h => h) hv hd kk
theorem gf_7108 : gfOK RX6 108 15 15 19 := by
  intro p l e R s m args below meth c H locs cells slots Q pc ls rest D tys ws a q0 ci fs v hx hts hown hK hP he h1 h2 hv hd kk
  obtain rfl : ci = 14 := by omega
  exact va_get hx rfl hts in_X14 hown hK hP q0 he (C := RX14) (T := TX14) (N := 32) rfl 19 (by decide) (hts _ q874) (fun x h => h) hv hd kk
theorem gf_7111 : gfOK RX6 111 15 15 11 := by
  intro p l e R s m args below meth c H locs cells slots Q pc ls rest D tys ws a q0 ci fs v hx hts hown hK hP he h1 h2 hv hd kk
  obtain rfl : ci = 14 := by omega
  exact va_get hx rfl hts in_X14 hown hK hP q0 he (C := RX14) (T := TX14) (N := 32) rfl 11 (by decide) (hts _ q843) (fun x h => h) hv hd kk
theorem gf_7114 : gfOK RX6 114 15 15 12 := by
  intro p l e R s m args below meth c H locs cells slots Q pc ls rest D tys ws a q0 ci fs v hx hts hown hK hP he h1 h2 hv hd kk
  obtain rfl : ci = 14 := by omega
  exact va_get hx rfl hts in_X14 hown hK hP q0 he (C := RX14) (T := TX14) (N := 32) rfl 12 (by decide) (hts _ q848) (fun x h => h) hv hd kk
theorem gf_7115 : gfOK RX6 115 7 7 6 := by
  intro p l e R s m args below meth c H locs cells slots Q pc ls rest D tys ws a q0 ci fs v hx hts hown hK hP he h1 h2 hv hd kk
  obtain rfl : ci = 6 := by omega
  exact va_get hx rfl hts in_X6 hown hK hP q0 he (C := RX6) (T := TX6) (N := 8) rfl 6 (by decide) (hts _ q508) (fun x h => h) hv hd kk
theorem gf_7128 : gfOK RX6 128 15 15 18 := by
  intro p l e R s m args below meth c H locs cells slots Q pc ls rest D tys ws a q0 ci fs v hx hts hown hK hP he h1 h2 hv hd kk
  obtain rfl : ci = 14 := by omega
  exact va_get hx rfl hts in_X14 hown hK hP q0 he (C := RX14) (T := TX14) (N := 32) rfl 18 (by decide) (hts _ q870) (fun x h => h) hv hd kk
theorem gf_7137 : gfOK RX6 137 15 15 30 := by
  intro p l e R s m args below meth c H locs cells slots Q pc ls rest D tys ws a q0 ci fs v hx hts hown hK hP he h1 h2 hv hd kk
  obtain rfl : ci = 14 := by omega
  exact va_get hx rfl hts in_X14 hown hK hP q0 he (C := RX14) (T := TX14) (N := 32) rfl 30 (by decide) (hts _ q924) (fun x h => h) hv hd kk
theorem gf_7146 : gfOK RX6 146 15 15 25 := by
  intro p l e R s m args below meth c H locs cells slots Q pc ls rest D tys ws a q0 ci fs v hx hts hown hK hP he h1 h2 hv hd kk
  obtain rfl : ci = 14 := by omega
  exact va_get hx rfl hts in_X14 hown hK hP q0 he (C := RX14) (T := TX14) (N := 32) rfl 25 (by decide) (hts _ q901) (fun x h => h) hv hd kk
theorem gf_7152 : gfOK RX6 152 15 15 4 := by
  intro p l e R s m args below meth c H locs cells slots Q pc ls rest D tys ws a q0 ci fs v hx hts hown hK hP he h1 h2 hv hd kk
  obtain rfl : ci = 14 := by omega
  exact va_get hx rfl hts in_X14 hown hK hP q0 he (C := RX14) (T := TX14) (N := 32) rfl 4 (by decide) (hts _ q822) (fun x h => h) hv hd kk
theorem gf_7155 : gfOK RX6 155 15 15 13 := by
  intro p l e R s m args below meth c H locs cells slots Q pc ls rest D tys ws a q0 ci fs v hx hts hown hK hP he h1 h2 hv hd kk
  obtain rfl : ci = 14 := by omega
  exact va_get hx rfl hts in_X14 hown hK hP q0 he (C := RX14) (T := TX14) (N := 32) rfl 13 (by decide) (hts _ q851) (fun x h => h) hv hd kk
theorem gf_7175 : gfOK RX6 175 15 15 20 := by
  intro p l e R s m args below meth c H locs cells slots Q pc ls rest D tys ws a q0 ci fs v hx hts hown hK hP he h1 h2 hv hd kk
  obtain rfl : ci = 14 := by omega
  exact va_get hx rfl hts in_X14 hown hK hP q0 he (C := RX14) (T := TX14) (N := 32) rfl 20 (by decide) (hts _ q881) (fun x h => h) hv hd kk
theorem gf_8012 : gfOK RX7 12 8 8 1 := by
  intro p l e R s m args below meth c H locs cells slots Q pc ls rest D tys ws a q0 ci fs v hx hts hown hK hP he h1 h2 hv hd kk
  obtain rfl : ci = 7 := by omega
  exact va_get hx rfl hts in_X7 hown hK hP q0 he (C := RX7) (T := TX7) (N := 25) rfl 1 (by decide) (hts _ q650) (fun x h => h) hv hd kk
theorem gf_8023 : gfOK RX7 23 8 8 2 := by
  intro p l e R s m args below meth c H locs cells slots Q pc ls rest D tys ws a q0 ci fs v hx hts hown hK hP he h1 h2 hv hd kk
  obtain rfl : ci = 7 := by omega
  exact va_get hx rfl hts in_X7 hown hK hP q0 he (C := RX7) (T := TX7) (N := 25) rfl 2 (by decide) (hts _ q652) (fun x h => h) hv hd kk
theorem gf_8032 : gfOK RX7 32 8 8 3 := by
  intro p l e R s m args below meth c H locs cells slots Q pc ls rest D tys ws a q0 ci fs v hx hts hown hK hP he h1 h2 hv hd kk
  obtain rfl : ci = 7 := by omega
  exact va_get hx rfl hts in_X7 hown hK hP q0 he (C := RX7) (T := TX7) (N := 25) rfl 3 (by decide) (hts _ q653) (fun x h => h) hv hd kk
theorem gf_8036 : gfOK RX7 36 8 8 4 := by
  intro p l e R s m args below meth c H locs cells slots Q pc ls rest D tys ws a q0 ci fs v hx hts hown hK hP he h1 h2 hv hd kk
  obtain rfl : ci = 7 := by omega
  exact va_get hx rfl hts in_X7 hown hK hP q0 he (C := RX7) (T := TX7) (N := 25) rfl 4 (by decide) (hts _ q655) (fun x h => h) hv hd kk
theorem gf_8040 : gfOK RX7 40 8 8 5 := by
  intro p l e R s m args below meth c H locs cells slots Q pc ls rest D tys ws a q0 ci fs v hx hts hown hK hP he h1 h2 hv hd kk
  obtain rfl : ci = 7 := by omega
  exact va_get hx rfl hts in_X7 hown hK hP q0 he (C := RX7) (T := TX7) (N := 25) rfl 5 (by decide) (hts _ q657) (fun x h => h) hv hd kk
theorem gf_8044 : gfOK RX7 44 8 8 6 := by
  intro p l e R s m args below meth c H locs cells slots Q pc ls rest D tys ws a q0 ci fs v hx hts hown hK hP he h1 h2 hv hd kk
  obtain rfl : ci = 7 := by omega
  exact va_get hx rfl hts in_X7 hown hK hP q0 he (C := RX7) (T := TX7) (N := 25) rfl 6 (by decide) (hts _ q658) (fun x h => h) hv hd kk
theorem gf_8051 : gfOK RX7 51 8 8 7 := by
  intro p l e R s m args below meth c H locs cells slots Q pc ls rest D tys ws a q0 ci fs v hx hts hown hK hP he h1 h2 hv hd kk
  obtain rfl : ci = 7 := by omega
  exact va_get hx rfl hts in_X7 hown hK hP q0 he (C := RX7) (T := TX7) (N := 25) rfl 7 (by decide) (hts _ q660) (fun x h => h) hv hd kk
theorem gf_8055 : gfOK RX7 55 8 8 8 := by
  intro p l e R s m args below meth c H locs cells slots Q pc ls rest D tys ws a q0 ci fs v hx hts hown hK hP he h1 h2 hv hd kk
  obtain rfl : ci = 7 := by omega
  exact va_get hx rfl hts in_X7 hown hK hP q0 he (C := RX7) (T := TX7) (N := 25) rfl 8 (by decide) (hts _ q661) (fun x h => h) hv hd kk
theorem gf_8058 : gfOK RX7 58 8 8 9 := by
  intro p l e R s m args below meth c H locs cells slots Q pc ls rest D tys ws a q0 ci fs v hx hts hown hK hP he h1 h2 hv hd kk
  obtain rfl : ci = 7 := by omega
  exact va_get hx rfl hts in_X7 hown hK hP q0 he (C := RX7) (T := TX7) (N := 25) rfl 9 (by decide) (hts _ q662) (fun x h => h) hv hd kk
theorem gf_8061 : gfOK RX7 61 8 8 10 := by
  intro p l e R s m args below meth c H locs cells slots Q pc ls rest D tys ws a q0 ci fs v hx hts hown hK hP he h1 h2 hv hd kk
  obtain rfl : ci = 7 := by omega
  exact va_get hx rfl hts in_X7 hown hK hP q0 he (C := RX7) (T := TX7) (N := 25) rfl 10 (by decide) (hts _ q664) (fun x h => h) hv hd kk
theorem gf_8064 : gfOK RX7 64 8 8 11 := by
  intro p l e R s m args below meth c H locs cells slots Q pc ls rest D tys ws a q0 ci fs v hx hts hown hK hP he h1 h2 hv hd kk
  obtain rfl : ci = 7 := by omega
  exact va_get hx rfl hts in_X7 hown hK hP q0 he (C := RX7) (T := TX7) (N := 25) rfl 11 (by decide) (hts _ q665) (fun x h => h) hv hd kk
theorem gf_8067 : gfOK RX7 67 8 8 12 := by
  intro p l e R s m args below meth c H locs cells slots Q pc ls rest D tys ws a q0 ci fs v hx hts hown hK hP he h1 h2 hv hd kk
  obtain rfl : ci = 7 := by omega
  exact va_get hx rfl hts in_X7 hown hK hP q0 he (C := RX7) (T := TX7) (N := 25) rfl 12 (by decide) (hts _ q666) (fun x h => h) hv hd kk
theorem gf_8070 : gfOK RX7 70 8 8 13 := by
  intro p l e R s m args below meth c H locs cells slots Q pc ls rest D tys ws a q0 ci fs v hx hts hown hK hP he h1 h2 hv hd kk
  obtain rfl : ci = 7 := by omega
  exact va_get hx rfl hts in_X7 hown hK hP q0 he (C := RX7) (T := TX7) (N := 25) rfl 13 (by decide) (hts _ q667) (fun x h => h) hv hd kk
theorem gf_8073 : gfOK RX7 73 8 8 14 := by
  intro p l e R s m args below meth c H locs cells slots Q pc ls rest D tys ws a q0 ci fs v hx hts hown hK hP he h1 h2 hv hd kk
  obtain rfl : ci = 7 := by omega
  exact va_get hx rfl hts in_X7 hown hK hP q0 he (C := RX7) (T := TX7) (N := 25) rfl 14 (by decide) (hts _ q668) (fun x h => h) hv hd kk
theorem gf_8076 : gfOK RX7 76 8 8 15 := by
  intro p l e R s m args below meth c H locs cells slots Q pc ls rest D tys ws a q0 ci fs v hx hts hown hK hP he h1 h2 hv hd kk
  obtain rfl : ci = 7 := by omega
  exact va_get hx rfl hts in_X7 hown hK hP q0 he (C := RX7) (T := TX7) (N := 25) rfl 15 (by decide) (hts _ q670) (fun x h => h) hv hd kk
theorem gf_8079 : gfOK RX7 79 8 8 16 := by
  intro p l e R s m args below meth c H locs cells slots Q pc ls rest D tys ws a q0 ci fs v hx hts hown hK hP he h1 h2 hv hd kk
  obtain rfl : ci = 7 := by omega
  exact va_get hx rfl hts in_X7 hown hK hP q0 he (C := RX7) (T := TX7) (N := 25) rfl 16 (by decide) (hts _ q671) (fun x h => h) hv hd kk
theorem gf_8082 : gfOK RX7 82 8 8 17 := by
  intro p l e R s m args below meth c H locs cells slots Q pc ls rest D tys ws a q0 ci fs v hx hts hown hK hP he h1 h2 hv hd kk
  obtain rfl : ci = 7 := by omega
  exact va_get hx rfl hts in_X7 hown hK hP q0 he (C := RX7) (T := TX7) (N := 25) rfl 17 (by decide) (hts _ q672) (fun x h => h) hv hd kk
theorem gf_8085 : gfOK RX7 85 8 8 20 := by
  intro p l e R s m args below meth c H locs cells slots Q pc ls rest D tys ws a q0 ci fs v hx hts hown hK hP he h1 h2 hv hd kk
  obtain rfl : ci = 7 := by omega
  exact va_get hx rfl hts in_X7 hown hK hP q0 he (C := RX7) (T := TX7) (N := 25) rfl 20 (by decide) (hts _ q675) (fun x h => h) hv hd kk
theorem gf_8088 : gfOK RX7 88 8 8 21 := by
  intro p l e R s m args below meth c H locs cells slots Q pc ls rest D tys ws a q0 ci fs v hx hts hown hK hP he h1 h2 hv hd kk
  obtain rfl : ci = 7 := by omega
  exact va_get hx rfl hts in_X7 hown hK hP q0 he (C := RX7) (T := TX7) (N := 25) rfl 21 (by decide) (hts _ q676) (fun x h => h) hv hd kk
theorem gf_8091 : gfOK RX7 91 8 8 0 := by
  intro p l e R s m args below meth c H locs cells slots Q pc ls rest D tys ws a q0 ci fs v hx hts hown hK hP he h1 h2 hv hd kk
  obtain rfl : ci = 7 := by omega
  exact va_get hx rfl hts in_X7 hown hK hP q0 he (C := RX7) (T := TX7) (N := 25) rfl 0 (by decide) (hts _ q649) (fun x h => h) hv hd kk
theorem gf_8098 : gfOK RX7 98 15 15 31 := by
  intro p l e R s m args below meth c H locs cells slots Q pc ls rest D tys ws a q0 ci fs v hx hts hown hK hP he h1 h2 hv hd kk
  obtain rfl : ci = 14 := by omega
  exact va_get hx rfl hts in_X14 hown hK hP q0 he (C := RX14) (T := TX14) (N := 32) rfl 31 (by decide) (hts _ q928) (fun x h => h) hv hd kk
theorem gf_8107 : gfOK RX7 107 8 8 19 := by
  intro p l e R s m args below meth c H locs cells slots Q pc ls rest D tys ws a q0 ci fs v hx hts hown hK hP he h1 h2 hv hd kk
  obtain rfl : ci = 7 := by omega
  exact va_get hx rfl hts in_X7 hown hK hP q0 he (C := RX7) (T := TX7) (N := 25) rfl 19 (by decide) (hts _ q674) (fun x h => h) hv hd kk
theorem gf_8110 : gfOK RX7 110 8 8 18 := by
  intro p l e R s m args below meth c H locs cells slots Q pc ls rest D tys ws a q0 ci fs v hx hts hown hK hP he h1 h2 hv hd kk
  obtain rfl : ci = 7 := by omega
  exact va_get hx rfl hts in_X7 hown hK hP q0 he (C := RX7) (T := TX7) (N := 25) rfl 18 (by decide) (hts _ q673) (fun x h => h) hv hd kk
theorem gf_8117 : gfOK RX7 117 15 15 17 := by
  intro p l e R s m args below meth c H locs cells slots Q pc ls rest D tys ws a q0 ci fs v hx hts hown hK hP he h1 h2 hv hd kk
  obtain rfl : ci = 14 := by omega
  exact va_get hx rfl hts in_X14 hown hK hP q0 he (C := RX14) (T := TX14) (N := 32) rfl 17 (by decide) (hts _ q865) (fun x h => h) hv hd kk
theorem gf_8120 : gfOK RX7 120 15 15 18 := by
  intro p l e R s m args below meth c H locs cells slots Q pc ls rest D tys ws a q0 ci fs v hx hts hown hK hP he h1 h2 hv hd kk
  obtain rfl : ci = 14 := by omega
  exact va_get hx rfl hts in_X14 hown hK hP q0 he (C := RX14) (T := TX14) (N := 32) rfl 18 (by decide) (hts _ q869) (fun x h => h) hv hd kk
theorem gf_8123 : gfOK RX7 123 15 15 20 := by
  intro p l e R s m args below meth c H locs cells slots Q pc ls rest D tys ws a q0 ci fs v hx hts hown hK hP he h1 h2 hv hd kk
  obtain rfl : ci = 14 := by omega
  exact va_get hx rfl hts in_X14 hown hK hP q0 he (C := RX14) (T := TX14) (N := 32) rfl 20 (by decide) (hts _ q879) (fun x h => h) hv hd kk
theorem gf_8132 : gfOK RX7 132 15 15 0 := by
  intro p l e R s m args below meth c H locs cells slots Q pc ls rest D tys ws a q0 ci fs v hx hts hown hK hP he h1 h2 hv hd kk
  obtain rfl : ci = 14 := by omega
  exact va_get hx rfl hts in_X14 hown hK hP q0 he (C := RX14) (T := TX14) (N := 32) rfl 0 (by decide) (hts _ q810) (fun x h => h) hv hd kk
theorem gf_8139 : gfOK RX7 139 15 15 24 := by
  intro p l e R s m args below meth c H locs cells slots Q pc ls rest D tys ws a q0 ci fs v hx hts hown hK hP he h1 h2 hv hd kk
  obtain rfl : ci = 14 := by omega
  exact va_get hx rfl hts in_X14 hown hK hP q0 he (C := RX14) (T := TX14) (N := 32) rfl 24 (by decide) (hts _ q895) (fun x h => h) hv hd kk
theorem gf_8142 : gfOK RX7 142 15 15 25 := by
  intro p l e R s m args below meth c H locs cells slots Q pc ls rest D tys ws a q0 ci fs v hx hts hown hK hP he h1 h2 hv hd kk
  obtain rfl : ci = 14 := by omega
  exact va_get hx rfl hts in_X14 hown hK hP q0 he (C := RX14) (T := TX14) (N := 32) rfl 25 (by decide) (hts _ q899) (fun x h => h) hv hd kk
theorem gf_8166 : gfOK RX7 166 15 15 11 := by
  intro p l e R s m args below meth c H locs cells slots Q pc ls rest D tys ws a q0 ci fs v hx hts hown hK hP he h1 h2 hv hd kk
  obtain rfl : ci = 14 := by omega
  exact va_get hx rfl hts in_X14 hown hK hP q0 he (C := RX14) (T := TX14) (N := 32) rfl 11 (by decide) (hts _ q844) (fun x h => h) hv hd kk
theorem gf_8172 : gfOK RX7 172 15 15 15 := by
  intro p l e R s m args below meth c H locs cells slots Q pc ls rest D tys ws a q0 ci fs v hx hts hown hK hP he h1 h2 hv hd kk
  obtain rfl : ci = 14 := by omega
  exact va_get hx rfl hts in_X14 hown hK hP q0 he (C := RX14) (T := TX14) (N := 32) rfl 15 (by decide) (hts _ q859) (fun x h => h) hv hd kk
theorem gf_8178 : gfOK RX7 178 8 8 22 := by
  intro p l e R s m args below meth c H locs cells slots Q pc ls rest D tys ws a q0 ci fs v hx hts hown hK hP he h1 h2 hv hd kk
  obtain rfl : ci = 7 := by omega
  exact va_get hx rfl hts in_X7 hown hK hP q0 he (C := RX7) (T := TX7) (N := 25) rfl 22 (by decide) (hts _ q677) (fun x h => h) hv hd kk
theorem gf_8193 : gfOK RX7 193 8 8 23 := by
  intro p l e R s m args below meth c H locs cells slots Q pc ls rest D tys ws a q0 ci fs v hx hts hown hK hP he h1 h2 hv hd kk
  obtain rfl : ci = 7 := by omega
  exact va_get hx rfl hts in_X7 hown hK hP q0 he (C := RX7) (T := TX7) (N := 25) rfl 23 (by decide) (hts _ q678) (fun x h => h) hv hd kk
theorem gf_8197 : gfOK RX7 197 8 8 24 := by
  intro p l e R s m args below meth c H locs cells slots Q pc ls rest D tys ws a q0 ci fs v hx hts hown hK hP he h1 h2 hv hd kk
  obtain rfl : ci = 7 := by omega
  exact va_get hx rfl hts in_X7 hown hK hP q0 he (C := RX7) (T := TX7) (N := 25) rfl 24 (by decide) (hts _ q679) (fun x h => h) hv hd kk
theorem gf_8204 : gfOK RX7 204 15 15 23 := by
  intro p l e R s m args below meth c H locs cells slots Q pc ls rest D tys ws a q0 ci fs v hx hts hown hK hP he h1 h2 hv hd kk
  obtain rfl : ci = 14 := by omega
  exact va_get hx rfl hts in_X14 hown hK hP q0 he (C := RX14) (T := TX14) (N := 32) rfl 23 (by decide) (hts _ q893) (fun x h => h) hv hd kk
theorem gf_8229 : gfOK RX7 229 15 15 26 := by
  intro p l e R s m args below meth c H locs cells slots Q pc ls rest D tys ws a q0 ci fs v hx hts hown hK hP he h1 h2 hv hd kk
  obtain rfl : ci = 14 := by omega
  exact va_get hx rfl hts in_X14 hown hK hP q0 he (C := RX14) (T := TX14) (N := 32) rfl 26 (by decide) (hts _ q906) (fun x h => h) hv hd kk
theorem gf_8232 : gfOK RX7 232 15 15 27 := by
  intro p l e R s m args below meth c H locs cells slots Q pc ls rest D tys ws a q0 ci fs v hx hts hown hK hP he h1 h2 hv hd kk
  obtain rfl : ci = 14 := by omega
  exact va_get hx rfl hts in_X14 hown hK hP q0 he (C := RX14) (T := TX14) (N := 32) rfl 27 (by decide) (hts _ q911) (fun x h => h) hv hd kk
theorem gf_8235 : gfOK RX7 235 15 15 28 := by
  intro p l e R s m args below meth c H locs cells slots Q pc ls rest D tys ws a q0 ci fs v hx hts hown hK hP he h1 h2 hv hd kk
  obtain rfl : ci = 14 := by omega
  exact va_get hx rfl hts in_X14 hown hK hP q0 he (C := RX14) (T := TX14) (N := 32) rfl 28 (by decide) (hts _ q916) (fun x h => h) hv hd kk
theorem gf_8238 : gfOK RX7 238 15 15 30 := by
  intro p l e R s m args below meth c H locs cells slots Q pc ls rest D tys ws a q0 ci fs v hx hts hown hK hP he h1 h2 hv hd kk
  obtain rfl : ci = 14 := by omega
  exact va_get hx rfl hts in_X14 hown hK hP q0 he (C := RX14) (T := TX14) (N := 32) rfl 30 (by decide) (hts _ q926) (fun x h => h) hv hd kk
theorem gf_8243 : gfOK RX7 243 15 15 29 := by
  intro p l e R s m args below meth c H locs cells slots Q pc ls rest D tys ws a q0 ci fs v hx hts hown hK hP he h1 h2 hv hd kk
  obtain rfl : ci = 14 := by omega
  exact va_get hx rfl hts in_X14 hown hK hP q0 he (C := RX14) (T := TX14) (N := 32) rfl 29 (by decide) (hts _ q921) (fun x h => h) hv hd kk
theorem gf_8246 : gfOK RX7 246 15 15 22 := by
  intro p l e R s m args below meth c H locs cells slots Q pc ls rest D tys ws a q0 ci fs v hx hts hown hK hP he h1 h2 hv hd kk
  obtain rfl : ci = 14 := by omega
  exact va_get hx rfl hts in_X14 hown hK hP q0 he (C := RX14) (T := TX14) (N := 32) rfl 22 (by decide) (hts _ q888) (fun x h => h) hv hd kk
theorem gf_8253 : gfOK RX7 253 15 15 19 := by
  intro p l e R s m args below meth c H locs cells slots Q pc ls rest D tys ws a q0 ci fs v hx hts hown hK hP he h1 h2 hv hd kk
  obtain rfl : ci = 14 := by omega
  exact va_get hx rfl hts in_X14 hown hK hP q0 he (C := RX14) (T := TX14) (N := 32) rfl 19 (by decide) (hts _ q876) (fun x h => h) hv hd kk
theorem gf_8265 : gfOK RX7 265 12 12 4 := by
  intro p l e R s m args below meth c H locs cells slots Q pc ls rest D tys ws a q0 ci fs v hx hts hown hK hP he h1 h2 hv hd kk
  obtain rfl : ci = 11 := by omega
  exact va_get hx rfl hts in_X11 hown hK hP q0 he (C := RX11) (T := TX11) (N := 8) rfl 4 (by decide) (hts _ q583) (fun x h => h) hv hd kk
theorem gf_8283 : gfOK RX7 283 12 12 1 := by
  intro p l e R s m args below meth c H locs cells slots Q pc ls rest D tys ws a q0 ci fs v hx hts hown hK hP he h1 h2 hv hd kk
  obtain rfl : ci = 11 := by omega
  exact va_get hx rfl hts in_X11 hown hK hP q0 he (C := RX11) (T := TX11) (N := 8) rfl 1 (by decide) (hts _ q602) (fun x h => u_same (hts _ q599) x h) hv hd kk
theorem gf_8286 : gfOK RX7 286 12 12 2 := by
  intro p l e R s m args below meth c H locs cells slots Q pc ls rest D tys ws a q0 ci fs v hx hts hown hK hP he h1 h2 hv hd kk
  obtain rfl : ci = 11 := by omega
  exact va_get hx rfl hts in_X11 hown hK hP q0 he (C := RX11) (T := TX11) (N := 8) rfl 2 (by decide) (hts _ q609) (fun x h => u_same (hts _ q606) x h) hv hd kk
theorem gf_8293 : gfOK RX7 293 10 10 1 := by
  intro p l e R s m args below meth c H locs cells slots Q pc ls rest D tys ws a q0 ci fs v hx hts hown hK hP he h1 h2 hv hd kk
  obtain rfl : ci = 9 := by omega
  exact va_get hx rfl hts in_X9 hown hK hP q0 he (C := RX9) (T := TX9) (N := 5) rfl 1 (by decide) (hts _ q556) (fun x h => h) hv hd kk
theorem gf_8295 : gfOK RX7 295 10 10 2 := by
  intro p l e R s m args below meth c H locs cells slots Q pc ls rest D tys ws a q0 ci fs v hx hts hown hK hP he h1 h2 hv hd kk
  obtain rfl : ci = 9 := by omega
  exact va_get hx rfl hts in_X9 hown hK hP q0 he (C := RX9) (T := TX9) (N := 5) rfl 2 (by decide) (hts _ q558) (fun x h => h) hv hd kk
theorem gf_8297 : gfOK RX7 297 12 12 3 := by
  intro p l e R s m args below meth c H locs cells slots Q pc ls rest D tys ws a q0 ci fs v hx hts hown hK hP he h1 h2 hv hd kk
  obtain rfl : ci = 11 := by omega
  exact va_get hx rfl hts in_X11 hown hK hP q0 he (C := RX11) (T := TX11) (N := 8) rfl 3 (by decide) (hts _ q614) (fun x h => u_same (hts _ q613) x h) hv hd kk
theorem gf_8366 : gfOK RX7 366 12 12 5 := by
  intro p l e R s m args below meth c H locs cells slots Q pc ls rest D tys ws a q0 ci fs v hx hts hown hK hP he h1 h2 hv hd kk
  obtain rfl : ci = 11 := by omega
  exact va_get hx rfl hts in_X11 hown hK hP q0 he (C := RX11) (T := TX11) (N := 8) rfl 5 (by decide) (hts _ q586) (fun x h => h) hv hd kk
theorem gf_8369 : gfOK RX7 369 12 12 6 := by
  intro p l e R s m args below meth c H locs cells slots Q pc ls rest D tys ws a q0 ci fs v hx hts hown hK hP he h1 h2 hv hd kk
  obtain rfl : ci = 11 := by omega
  exact va_get hx rfl hts in_X11 hown hK hP q0 he (C := RX11) (T := TX11) (N := 8) rfl 6 (by decide) (hts _ q589) (fun x h => h) hv hd kk
theorem gf_8372 : gfOK RX7 372 12 12 7 := by
  intro p l e R s m args below meth c H locs cells slots Q pc ls rest D tys ws a q0 ci fs v hx hts hown hK hP he h1 h2 hv hd kk
  obtain rfl : ci = 11 := by omega
  exact va_get hx rfl hts in_X11 hown hK hP q0 he (C := RX11) (T := TX11) (N := 8) rfl 7 (by decide) (hts _ q592) (fun x h => h) hv hd kk
theorem gf_8404 : gfOK RX7 404 15 15 5 := by
  intro p l e R s m args below meth c H locs cells slots Q pc ls rest D tys ws a q0 ci fs v hx hts hown hK hP he h1 h2 hv hd kk
  obtain rfl : ci = 14 := by omega
  exact va_get hx rfl hts in_X14 hown hK hP q0 he (C := RX14) (T := TX14) (N := 32) rfl 5 (by decide) (hts _ q828) (fun x h => h) hv hd kk
theorem gf_8417 : gfOK RX7 417 15 15 2 := by
  intro p l e R s m args below meth c H locs cells slots Q pc ls rest D tys ws a q0 ci fs v hx hts hown hK hP he h1 h2 hv hd kk
  obtain rfl : ci = 14 := by omega
  exact va_get hx rfl hts in_X14 hown hK hP q0 he (C := RX14) (T := TX14) (N := 32) rfl 2 (by decide) (hts _ q817) (fun x h => h) hv hd kk
theorem gf_8419 : gfOK RX7 419 15 15 3 := by
  intro p l e R s m args below meth c H locs cells slots Q pc ls rest D tys ws a q0 ci fs v hx hts hown hK hP he h1 h2 hv hd kk
  obtain rfl : ci = 14 := by omega
  exact va_get hx rfl hts in_X14 hown hK hP q0 he (C := RX14) (T := TX14) (N := 32) rfl 3 (by decide) (hts _ q820) (fun x h => h) hv hd kk
theorem gf_8425 : gfOK RX7 425 15 15 4 := by
  intro p l e R s m args below meth c H locs cells slots Q pc ls rest D tys ws a q0 ci fs v hx hts hown hK hP he h1 h2 hv hd kk
  obtain rfl : ci = 14 := by omega
  exact va_get hx rfl hts in_X14 hown hK hP q0 he (C := RX14) (T := TX14) (N := 32) rfl 4 (by decide) (hts _ q824) (fun x h => h) hv hd kk
theorem gf_8437 : gfOK RX7 437 13 13 4 := by
  intro p l e R s m args below meth c H locs cells slots Q pc ls rest D tys ws a q0 ci fs v hx hts hown hK hP he h1 h2 hv hd kk
  obtain rfl : ci = 12 := by omega
  exact va_get hx rfl hts in_X12 hown hK hP q0 he (C := RX12) (T := TX12) (N := 5) rfl 4 (by decide) (hts _ q641) (fun x h => h) hv hd kk
theorem gf_8448 : gfOK RX7 448 13 13 1 := by
  intro p l e R s m args below meth c H locs cells slots Q pc ls rest D tys ws a q0 ci fs v hx hts hown hK hP he h1 h2 hv hd kk
  obtain rfl : ci = 12 := by omega
  exact va_get hx rfl hts in_X12 hown hK hP q0 he (C := RX12) (T := TX12) (N := 5) rfl 1 (by decide) (hts _ q603) (fun x h => u_same (hts _ q601) x h) hv hd kk
theorem gf_8449 : gfOK RX7 449 13 13 2 := by
  intro p l e R s m args below meth c H locs cells slots Q pc ls rest D tys ws a q0 ci fs v hx hts hown hK hP he h1 h2 hv hd kk
  obtain rfl : ci = 12 := by omega
  exact va_get hx rfl hts in_X12 hown hK hP q0 he (C := RX12) (T := TX12) (N := 5) rfl 2 (by decide) (hts _ q610) (fun x h => u_same (hts _ q608) x h) hv hd kk
theorem gf_8457 : gfOK RX7 457 15 15 13 := by
  intro p l e R s m args below meth c H locs cells slots Q pc ls rest D tys ws a q0 ci fs v hx hts hown hK hP he h1 h2 hv hd kk
  obtain rfl : ci = 14 := by omega
  exact va_get hx rfl hts in_X14 hown hK hP q0 he (C := RX14) (T := TX14) (N := 32) rfl 13 (by decide) (hts _ q853) (fun x h => h) hv hd kk
theorem gf_9009 : gfOK RX8 9 9 9 0 := by
  intro p l e R s m args below meth c H locs cells slots Q pc ls rest D tys ws a q0 ci fs v hx hts hown hK hP he h1 h2 hv hd kk
  obtain rfl : ci = 8 := by omega
  exact va_get hx rfl hts in_X8 hown hK hP q0 he (C := RX8) (T := TX8) (N := 2) rfl 0 (by decide) (hts _ q540) (fun x h => h) hv hd kk
theorem gf_9015 : gfOK RX8 15 9 9 1 := by
  intro p l e R s m args below meth c H locs cells slots Q pc ls rest D tys ws a q0 ci fs v hx hts hown hK hP he h1 h2 hv hd kk
  obtain rfl : ci = 8 := by omega
  exact va_get hx rfl hts in_X8 hown hK hP q0 he (C := RX8) (T := TX8) (N := 2) rfl 1 (by decide) (hts _ q541) (fun x h => h) hv hd kk
theorem gf_10009 : gfOK RX9 9 10 10 0 := by
  intro p l e R s m args below meth c H locs cells slots Q pc ls rest D tys ws a q0 ci fs v hx hts hown hK hP he h1 h2 hv hd kk
  obtain rfl : ci = 9 := by omega
  exact va_get hx rfl hts in_X9 hown hK hP q0 he (C := RX9) (T := TX9) (N := 5) rfl 0 (by decide) (hts _ q554) (fun x h => h) hv hd kk
theorem gf_10069 : gfOK RX9 69 10 10 3 := by
  intro p l e R s m args below meth c H locs cells slots Q pc ls rest D tys ws a q0 ci fs v hx hts hown hK hP he h1 h2 hv hd kk
  obtain rfl : ci = 9 := by omega
  exact va_get hx rfl hts in_X9 hown hK hP q0 he (C := RX9) (T := TX9) (N := 5) rfl 3 (by decide) (hts _ q559) (fun x h => h) hv hd kk
theorem gf_10073 : gfOK RX9 73 10 10 4 := by
  intro p l e R s m args below meth c H locs cells slots Q pc ls rest D tys ws a q0 ci fs v hx hts hown hK hP he h1 h2 hv hd kk
  obtain rfl : ci = 9 := by omega
  exact va_get hx rfl hts in_X9 hown hK hP q0 he (C := RX9) (T := TX9) (N := 5) rfl 4 (by decide) (hts _ q560) (fun x h => h) hv hd kk
theorem gf_11009 : gfOK RX10 9 12 13 0 := by
  intro p l e R s m args below meth c H locs cells slots Q pc ls rest D tys ws a q0 ci fs v hx hts hown hK hP he h1 h2 hv hd kk
  rcases (show ci = 11 ∨ ci = 12 by omega) with rfl | rfl
  · exact va_get hx rfl hts in_X11 hown hK hP q0 he (C := RX11) (T := TX11) (N := 8) rfl 0 (by decide) (hts _ q593) (fun x h => h) hv hd kk
  · exact va_get hx rfl hts in_X12 hown hK hP q0 he (C := RX12) (T := TX12) (N := 5) rfl 0 (by decide) (hts _ q593) (fun x h => h) hv hd kk
theorem gf_11015 : gfOK RX10 15 12 13 1 := by
  intro p l e R s m args below meth c H locs cells slots Q pc ls rest D tys ws a q0 ci fs v hx hts hown hK hP he h1 h2 hv hd kk
  rcases (show ci = 11 ∨ ci = 12 by omega) with rfl | rfl
  · exact va_get hx rfl hts in_X11 hown hK hP q0 he (C := RX11) (T := TX11) (N := 8) rfl 1 (by decide) (hts _ q597) (fun x h => h) hv hd kk
  · exact va_get hx rfl hts in_X12 hown hK hP q0 he (C := RX12) (T := TX12) (N := 5) rfl 1 (by decide) (hts _ q597) (fun x h => h) hv hd kk
theorem gf_11018 : gfOK RX10 18 12 13 2 := by
  intro p l e R s m args below meth c H locs cells slots Q pc ls rest D tys ws a q0 ci fs v hx hts hown hK hP he h1 h2 hv hd kk
  rcases (show ci = 11 ∨ ci = 12 by omega) with rfl | rfl
  · exact va_get hx rfl hts in_X11 hown hK hP q0 he (C := RX11) (T := TX11) (N := 8) rfl 2 (by decide) (hts _ q604) (fun x h => h) hv hd kk
  · exact va_get hx rfl hts in_X12 hown hK hP q0 he (C := RX12) (T := TX12) (N := 5) rfl 2 (by decide) (hts _ q604) (fun x h => h) hv hd kk
theorem gf_11021 : gfOK RX10 21 12 13 3 := by
  intro p l e R s m args below meth c H locs cells slots Q pc ls rest D tys ws a q0 ci fs v hx hts hown hK hP he h1 h2 hv hd kk
  rcases (show ci = 11 ∨ ci = 12 by omega) with rfl | rfl
  · exact va_get hx rfl hts in_X11 hown hK hP q0 he (C := RX11) (T := TX11) (N := 8) rfl 3 (by decide) (hts _ q611) (fun x h => h) hv hd kk
  · exact va_get hx rfl hts in_X12 hown hK hP q0 he (C := RX12) (T := TX12) (N := 5) rfl 3 (by decide) (hts _ q611) (fun x h => h) hv hd kk
theorem gf_12009 : gfOK RX11 9 12 12 4 := by
  intro p l e R s m args below meth c H locs cells slots Q pc ls rest D tys ws a q0 ci fs v hx hts hown hK hP he h1 h2 hv hd kk
  obtain rfl : ci = 11 := by omega
  exact va_get hx rfl hts in_X11 hown hK hP q0 he (C := RX11) (T := TX11) (N := 8) rfl 4 (by decide) (hts _ q581) (fun x h => h) hv hd kk
theorem gf_12015 : gfOK RX11 15 12 12 5 := by
  intro p l e R s m args below meth c H locs cells slots Q pc ls rest D tys ws a q0 ci fs v hx hts hown hK hP he h1 h2 hv hd kk
  obtain rfl : ci = 11 := by omega
  exact va_get hx rfl hts in_X11 hown hK hP q0 he (C := RX11) (T := TX11) (N := 8) rfl 5 (by decide) (hts _ q584) (fun x h => h) hv hd kk
theorem gf_12018 : gfOK RX11 18 12 12 6 := by
  intro p l e R s m args below meth c H locs cells slots Q pc ls rest D tys ws a q0 ci fs v hx hts hown hK hP he h1 h2 hv hd kk
  obtain rfl : ci = 11 := by omega
  exact va_get hx rfl hts in_X11 hown hK hP q0 he (C := RX11) (T := TX11) (N := 8) rfl 6 (by decide) (hts _ q587) (fun x h => h) hv hd kk
theorem gf_12021 : gfOK RX11 21 12 12 7 := by
  intro p l e R s m args below meth c H locs cells slots Q pc ls rest D tys ws a q0 ci fs v hx hts hown hK hP he h1 h2 hv hd kk
  obtain rfl : ci = 11 := by omega
  exact va_get hx rfl hts in_X11 hown hK hP q0 he (C := RX11) (T := TX11) (N := 8) rfl 7 (by decide) (hts _ q590) (fun x h => h) hv hd kk
theorem gf_12032 : gfOK RX11 32 12 12 0 := by
  intro p l e R s m args below meth c H locs cells slots Q pc ls rest D tys ws a q0 ci fs v hx hts hown hK hP he h1 h2 hv hd kk
  obtain rfl : ci = 11 := by omega
  exact va_get hx rfl hts in_X11 hown hK hP q0 he (C := RX11) (T := TX11) (N := 8) rfl 0 (by decide) (hts _ q594) (fun x h => u_same (hts _ q595) x h) hv hd kk
theorem gf_13007 : gfOK RX12 7 13 13 4 := by
  intro p l e R s m args below meth c H locs cells slots Q pc ls rest D tys ws a q0 ci fs v hx hts hown hK hP he h1 h2 hv hd kk
  obtain rfl : ci = 12 := by omega
  exact va_get hx rfl hts in_X12 hown hK hP q0 he (C := RX12) (T := TX12) (N := 5) rfl 4 (by decide) (hts _ q639) (fun x h => h) hv hd kk
theorem gf_14011 : gfOK RX13 11 14 14 1 := by
  intro p l e R s m args below meth c H locs cells slots Q pc ls rest D tys ws a q0 ci fs v hx hts hown hK hP he h1 h2 hv hd kk
  obtain rfl : ci = 13 := by omega
  exact va_get hx rfl hts in_X13 hown hK hP q0 he (C := RX13) (T := TX13) (N := 20) rfl 1 (by decide) (hts _ q738) (fun x h => h) hv hd kk
theorem gf_14015 : gfOK RX13 15 14 14 2 := by
  intro p l e R s m args below meth c H locs cells slots Q pc ls rest D tys ws a q0 ci fs v hx hts hown hK hP he h1 h2 hv hd kk
  obtain rfl : ci = 13 := by omega
  exact va_get hx rfl hts in_X13 hown hK hP q0 he (C := RX13) (T := TX13) (N := 20) rfl 2 (by decide) (hts _ q739) (fun x h => h) hv hd kk
theorem gf_14018 : gfOK RX13 18 14 14 3 := by
  intro p l e R s m args below meth c H locs cells slots Q pc ls rest D tys ws a q0 ci fs v hx hts hown hK hP he h1 h2 hv hd kk
  obtain rfl : ci = 13 := by omega
  exact va_get hx rfl hts in_X13 hown hK hP q0 he (C := RX13) (T := TX13) (N := 20) rfl 3 (by decide) (hts _ q740) (fun x h => h) hv hd kk
theorem gf_14021 : gfOK RX13 21 14 14 4 := by
  intro p l e R s m args below meth c H locs cells slots Q pc ls rest D tys ws a q0 ci fs v hx hts hown hK hP he h1 h2 hv hd kk
  obtain rfl : ci = 13 := by omega
  exact va_get hx rfl hts in_X13 hown hK hP q0 he (C := RX13) (T := TX13) (N := 20) rfl 4 (by decide) (hts _ q741) (fun x h => h) hv hd kk
theorem gf_14024 : gfOK RX13 24 14 14 7 := by
  intro p l e R s m args below meth c H locs cells slots Q pc ls rest D tys ws a q0 ci fs v hx hts hown hK hP he h1 h2 hv hd kk
  obtain rfl : ci = 13 := by omega
  exact va_get hx rfl hts in_X13 hown hK hP q0 he (C := RX13) (T := TX13) (N := 20) rfl 7 (by decide) (hts _ q744) (fun x h => h) hv hd kk
theorem gf_14027 : gfOK RX13 27 14 14 8 := by
  intro p l e R s m args below meth c H locs cells slots Q pc ls rest D tys ws a q0 ci fs v hx hts hown hK hP he h1 h2 hv hd kk
  obtain rfl : ci = 13 := by omega
  exact va_get hx rfl hts in_X13 hown hK hP q0 he (C := RX13) (T := TX13) (N := 20) rfl 8 (by decide) (hts _ q745) (fun x h => h) hv hd kk
theorem gf_14030 : gfOK RX13 30 14 14 9 := by
  intro p l e R s m args below meth c H locs cells slots Q pc ls rest D tys ws a q0 ci fs v hx hts hown hK hP he h1 h2 hv hd kk
  obtain rfl : ci = 13 := by omega
  exact va_get hx rfl hts in_X13 hown hK hP q0 he (C := RX13) (T := TX13) (N := 20) rfl 9 (by decide) (hts _ q746) (fun x h => h) hv hd kk
theorem gf_14033 : gfOK RX13 33 14 14 14 := by
  intro p l e R s m args below meth c H locs cells slots Q pc ls rest D tys ws a q0 ci fs v hx hts hown hK hP he h1 h2 hv hd kk
  obtain rfl : ci = 13 := by omega
  exact va_get hx rfl hts in_X13 hown hK hP q0 he (C := RX13) (T := TX13) (N := 20) rfl 14 (by decide) (hts _ q751) (fun x h => h) hv hd kk
theorem gf_14036 : gfOK RX13 36 14 14 0 := by
  intro p l e R s m args below meth c H locs cells slots Q pc ls rest D tys ws a q0 ci fs v hx hts hown hK hP he h1 h2 hv hd kk
  obtain rfl : ci = 13 := by omega
  exact va_get hx rfl hts in_X13 hown hK hP q0 he (C := RX13) (T := TX13) (N := 20) rfl 0 (by decide) (hts _ q737) (fun x h => h) hv hd kk
theorem gf_14040 : gfOK RX13 40 14 14 11 := by
  intro p l e R s m args below meth c H locs cells slots Q pc ls rest D tys ws a q0 ci fs v hx hts hown hK hP he h1 h2 hv hd kk
  obtain rfl : ci = 13 := by omega
  exact va_get hx rfl hts in_X13 hown hK hP q0 he (C := RX13) (T := TX13) (N := 20) rfl 11 (by decide) (hts _ q748) (fun x h => h) hv hd kk
theorem gf_14043 : gfOK RX13 43 14 14 12 := by
  intro p l e R s m args below meth c H locs cells slots Q pc ls rest D tys ws a q0 ci fs v hx hts hown hK hP he h1 h2 hv hd kk
  obtain rfl : ci = 13 := by omega
  exact va_get hx rfl hts in_X13 hown hK hP q0 he (C := RX13) (T := TX13) (N := 20) rfl 12 (by decide) (hts _ q749) (fun x h => h) hv hd kk
theorem gf_14047 : gfOK RX13 47 14 14 13 := by
  intro p l e R s m args below meth c H locs cells slots Q pc ls rest D tys ws a q0 ci fs v hx hts hown hK hP he h1 h2 hv hd kk
  obtain rfl : ci = 13 := by omega
  exact va_get hx rfl hts in_X13 hown hK hP q0 he (C := RX13) (T := TX13) (N := 20) rfl 13 (by decide) (hts _ q750) (fun x h => h) hv hd kk
theorem gf_14050 : gfOK RX13 50 14 14 15 := by
  intro p l e R s m args below meth c H locs cells slots Q pc ls rest D tys ws a q0 ci fs v hx hts hown hK hP he h1 h2 hv hd kk
  obtain rfl : ci = 13 := by omega
  exact va_get hx rfl hts in_X13 hown hK hP q0 he (C := RX13) (T := TX13) (N := 20) rfl 15 (by decide) (hts _ q753) (fun x h => h) hv hd kk
theorem gf_14053 : gfOK RX13 53 14 14 16 := by
  intro p l e R s m args below meth c H locs cells slots Q pc ls rest D tys ws a q0 ci fs v hx hts hown hK hP he h1 h2 hv hd kk
  obtain rfl : ci = 13 := by omega
  exact va_get hx rfl hts in_X13 hown hK hP q0 he (C := RX13) (T := TX13) (N := 20) rfl 16 (by decide) (hts _ q755) (fun x h => h) hv hd kk
theorem gf_14059 : gfOK RX13 59 14 14 5 := by
  intro p l e R s m args below meth c H locs cells slots Q pc ls rest D tys ws a q0 ci fs v hx hts hown hK hP he h1 h2 hv hd kk
  obtain rfl : ci = 13 := by omega
  exact va_get hx rfl hts in_X13 hown hK hP q0 he (C := RX13) (T := TX13) (N := 20) rfl 5 (by decide) (hts _ q742) (fun x h => h) hv hd kk
theorem gf_14062 : gfOK RX13 62 14 14 6 := by
  intro p l e R s m args below meth c H locs cells slots Q pc ls rest D tys ws a q0 ci fs v hx hts hown hK hP he h1 h2 hv hd kk
  obtain rfl : ci = 13 := by omega
  exact va_get hx rfl hts in_X13 hown hK hP q0 he (C := RX13) (T := TX13) (N := 20) rfl 6 (by decide) (hts _ q743) (fun x h => h) hv hd kk
theorem gf_14065 : gfOK RX13 65 14 14 10 := by
  intro p l e R s m args below meth c H locs cells slots Q pc ls rest D tys ws a q0 ci fs v hx hts hown hK hP he h1 h2 hv hd kk
  obtain rfl : ci = 13 := by omega
  exact va_get hx rfl hts in_X13 hown hK hP q0 he (C := RX13) (T := TX13) (N := 20) rfl 10 (by decide) (hts _ q747) (fun x h => h) hv hd kk
theorem gf_14068 : gfOK RX13 68 14 14 19 := by
  intro p l e R s m args below meth c H locs cells slots Q pc ls rest D tys ws a q0 ci fs v hx hts hown hK hP he h1 h2 hv hd kk
  obtain rfl : ci = 13 := by omega
  exact va_get hx rfl hts in_X13 hown hK hP q0 he (C := RX13) (T := TX13) (N := 20) rfl 19 (by decide) (hts _ q761) (fun x h => h) hv hd kk
theorem gf_14071 : gfOK RX13 71 15 15 31 := by
  intro p l e R s m args below meth c H locs cells slots Q pc ls rest D tys ws a q0 ci fs v hx hts hown hK hP he h1 h2 hv hd kk
  obtain rfl : ci = 14 := by omega
  exact va_get hx rfl hts in_X14 hown hK hP q0 he (C := RX14) (T := TX14) (N := 32) rfl 31 (by decide) (hts _ q929) (fun x h => h) hv hd kk
theorem gf_14080 : gfOK RX13 80 14 14 17 := by
  intro p l e R s m args below meth c H locs cells slots Q pc ls rest D tys ws a q0 ci fs v hx hts hown hK hP he h1 h2 hv hd kk
  obtain rfl : ci = 13 := by omega
  exact va_get hx rfl hts in_X13 hown hK hP q0 he (C := RX13) (T := TX13) (N := 20) rfl 17 (by decide) (hts _ q757) (fun x h => h) hv hd kk
theorem gf_14086 : gfOK RX13 86 15 15 15 := by
  intro p l e R s m args below meth c H locs cells slots Q pc ls rest D tys ws a q0 ci fs v hx hts hown hK hP he h1 h2 hv hd kk
  obtain rfl : ci = 14 := by omega
  exact va_get hx rfl hts in_X14 hown hK hP q0 he (C := RX14) (T := TX14) (N := 32) rfl 15 (by decide) (hts _ q858) (fun x h => h) hv hd kk
theorem gf_14089 : gfOK RX13 89 15 15 25 := by
  intro p l e R s m args below meth c H locs cells slots Q pc ls rest D tys ws a q0 ci fs v hx hts hown hK hP he h1 h2 hv hd kk
  obtain rfl : ci = 14 := by omega
  exact va_get hx rfl hts in_X14 hown hK hP q0 he (C := RX14) (T := TX14) (N := 32) rfl 25 (by decide) (hts _ q900) (fun x h => h) hv hd kk
theorem gf_14103 : gfOK RX13 103 15 15 26 := by
  intro p l e R s m args below meth c H locs cells slots Q pc ls rest D tys ws a q0 ci fs v hx hts hown hK hP he h1 h2 hv hd kk
  obtain rfl : ci = 14 := by omega
  exact va_get hx rfl hts in_X14 hown hK hP q0 he (C := RX14) (T := TX14) (N := 32) rfl 26 (by decide) (hts _ q905) (fun x h => h) hv hd kk
theorem gf_14106 : gfOK RX13 106 15 15 27 := by
  intro p l e R s m args below meth c H locs cells slots Q pc ls rest D tys ws a q0 ci fs v hx hts hown hK hP he h1 h2 hv hd kk
  obtain rfl : ci = 14 := by omega
  exact va_get hx rfl hts in_X14 hown hK hP q0 he (C := RX14) (T := TX14) (N := 32) rfl 27 (by decide) (hts _ q910) (fun x h => h) hv hd kk
theorem gf_14109 : gfOK RX13 109 15 15 28 := by
  intro p l e R s m args below meth c H locs cells slots Q pc ls rest D tys ws a q0 ci fs v hx hts hown hK hP he h1 h2 hv hd kk
  obtain rfl : ci = 14 := by omega
  exact va_get hx rfl hts in_X14 hown hK hP q0 he (C := RX14) (T := TX14) (N := 32) rfl 28 (by decide) (hts _ q915) (fun x h => h) hv hd kk
theorem gf_14112 : gfOK RX13 112 15 15 30 := by
  intro p l e R s m args below meth c H locs cells slots Q pc ls rest D tys ws a q0 ci fs v hx hts hown hK hP he h1 h2 hv hd kk
  obtain rfl : ci = 14 := by omega
  exact va_get hx rfl hts in_X14 hown hK hP q0 he (C := RX14) (T := TX14) (N := 32) rfl 30 (by decide) (hts _ q925) (fun x h => h) hv hd kk
theorem gf_14118 : gfOK RX13 118 15 15 29 := by
  intro p l e R s m args below meth c H locs cells slots Q pc ls rest D tys ws a q0 ci fs v hx hts hown hK hP he h1 h2 hv hd kk
  obtain rfl : ci = 14 := by omega
  exact va_get hx rfl hts in_X14 hown hK hP q0 he (C := RX14) (T := TX14) (N := 32) rfl 29 (by decide) (hts _ q920) (fun x h => h) hv hd kk
theorem gf_14121 : gfOK RX13 121 15 15 18 := by
  intro p l e R s m args below meth c H locs cells slots Q pc ls rest D tys ws a q0 ci fs v hx hts hown hK hP he h1 h2 hv hd kk
  obtain rfl : ci = 14 := by omega
  exact va_get hx rfl hts in_X14 hown hK hP q0 he (C := RX14) (T := TX14) (N := 32) rfl 18 (by decide) (hts _ q871) (fun x h => h) hv hd kk
theorem gf_14150 : gfOK RX13 150 15 15 19 := by
  intro p l e R s m args below meth c H locs cells slots Q pc ls rest D tys ws a q0 ci fs v hx hts hown hK hP he h1 h2 hv hd kk
  obtain rfl : ci = 14 := by omega
  exact va_get hx rfl hts in_X14 hown hK hP q0 he (C := RX14) (T := TX14) (N := 32) rfl 19 (by decide) (hts _ q875) (fun x h => h) hv hd kk
theorem gf_14153 : gfOK RX13 153 15 15 20 := by
  intro p l e R s m args below meth c H locs cells slots Q pc ls rest D tys ws a q0 ci fs v hx hts hown hK hP he h1 h2 hv hd kk
  obtain rfl : ci = 14 := by omega
  exact va_get hx rfl hts in_X14 hown hK hP q0 he (C := RX14) (T := TX14) (N := 32) rfl 20 (by decide) (hts _ q880) (fun x h => h) hv hd kk
theorem gf_14164 : gfOK RX13 164 15 15 6 := by
  intro p l e R s m args below meth c H locs cells slots Q pc ls rest D tys ws a q0 ci fs v hx hts hown hK hP he h1 h2 hv hd kk
  obtain rfl : ci = 14 := by omega
  exact va_get hx rfl hts in_X14 hown hK hP q0 he (C := RX14) (T := TX14) (N := 32) rfl 6 (by decide) (hts _ q830) (fun x h => h) hv hd kk
theorem gf_14180 : gfOK RX13 180 15 15 5 := by
  intro p l e R s m args below meth c H locs cells slots Q pc ls rest D tys ws a q0 ci fs v hx hts hown hK hP he h1 h2 hv hd kk
  obtain rfl : ci = 14 := by omega
  exact va_get hx rfl hts in_X14 hown hK hP q0 he (C := RX14) (T := TX14) (N := 32) rfl 5 (by decide) (hts _ q827) (fun x h => h) hv hd kk
theorem gf_14197 : gfOK RX13 197 15 15 11 := by
  intro p l e R s m args below meth c H locs cells slots Q pc ls rest D tys ws a q0 ci fs v hx hts hown hK hP he h1 h2 hv hd kk
  obtain rfl : ci = 14 := by omega
  exact va_get hx rfl hts in_X14 hown hK hP q0 he (C := RX14) (T := TX14) (N := 32) rfl 11 (by decide) (hts _ q846) (fun x h => h) hv hd kk
theorem gf_15009 : gfOK RX14 9 15 15 1 := by
  intro p l e R s m args below meth c H locs cells slots Q pc ls rest D tys ws a q0 ci fs v hx hts hown hK hP he h1 h2 hv hd kk
  obtain rfl : ci = 14 := by omega
  exact va_get hx rfl hts in_X14 hown hK hP q0 he (C := RX14) (T := TX14) (N := 32) rfl 1 (by decide) (hts _ q813) (fun x h => h) hv hd kk
theorem gf_15024 : gfOK RX14 24 15 15 6 := by
  intro p l e R s m args below meth c H locs cells slots Q pc ls rest D tys ws a q0 ci fs v hx hts hown hK hP he h1 h2 hv hd kk
  obtain rfl : ci = 14 := by omega
  exact va_get hx rfl hts in_X14 hown hK hP q0 he (C := RX14) (T := TX14) (N := 32) rfl 6 (by decide) (hts _ q829) (fun x h => h) hv hd kk
theorem gf_15027 : gfOK RX14 27 15 15 8 := by
  intro p l e R s m args below meth c H locs cells slots Q pc ls rest D tys ws a q0 ci fs v hx hts hown hK hP he h1 h2 hv hd kk
  obtain rfl : ci = 14 := by omega
  exact va_get hx rfl hts in_X14 hown hK hP q0 he (C := RX14) (T := TX14) (N := 32) rfl 8 (by decide) (hts _ q836) (fun x h => h) hv hd kk
theorem gf_15030 : gfOK RX14 30 15 15 9 := by
  intro p l e R s m args below meth c H locs cells slots Q pc ls rest D tys ws a q0 ci fs v hx hts hown hK hP he h1 h2 hv hd kk
  obtain rfl : ci = 14 := by omega
  exact va_get hx rfl hts in_X14 hown hK hP q0 he (C := RX14) (T := TX14) (N := 32) rfl 9 (by decide) (hts _ q838) (fun x h => h) hv hd kk
theorem gf_15037 : gfOK RX14 37 15 15 11 := by
  intro p l e R s m args below meth c H locs cells slots Q pc ls rest D tys ws a q0 ci fs v hx hts hown hK hP he h1 h2 hv hd kk
  obtain rfl : ci = 14 := by omega
  exact va_get hx rfl hts in_X14 hown hK hP q0 he (C := RX14) (T := TX14) (N := 32) rfl 11 (by decide) (hts _ q842) (fun x h => h) hv hd kk
theorem gf_15043 : gfOK RX14 43 15 15 13 := by
  intro p l e R s m args below meth c H locs cells slots Q pc ls rest D tys ws a q0 ci fs v hx hts hown hK hP he h1 h2 hv hd kk
  obtain rfl : ci = 14 := by omega
  exact va_get hx rfl hts in_X14 hown hK hP q0 he (C := RX14) (T := TX14) (N := 32) rfl 13 (by decide) (hts _ q850) (fun x h => h) hv hd kk
theorem gf_15055 : gfOK RX14 55 15 15 18 := by
  intro p l e R s m args below meth c H locs cells slots Q pc ls rest D tys ws a q0 ci fs v hx hts hown hK hP he h1 h2 hv hd kk
  obtain rfl : ci = 14 := by omega
  exact va_get hx rfl hts in_X14 hown hK hP q0 he (C := RX14) (T := TX14) (N := 32) rfl 18 (by decide) (hts _ q868) (fun x h => h) hv hd kk
theorem gf_15058 : gfOK RX14 58 15 15 19 := by
  intro p l e R s m args below meth c H locs cells slots Q pc ls rest D tys ws a q0 ci fs v hx hts hown hK hP he h1 h2 hv hd kk
  obtain rfl : ci = 14 := by omega
  exact va_get hx rfl hts in_X14 hown hK hP q0 he (C := RX14) (T := TX14) (N := 32) rfl 19 (by decide) (hts _ q873) (fun x h => h) hv hd kk
theorem gf_15073 : gfOK RX14 73 15 15 25 := by
  intro p l e R s m args below meth c H locs cells slots Q pc ls rest D tys ws a q0 ci fs v hx hts hown hK hP he h1 h2 hv hd kk
  obtain rfl : ci = 14 := by omega
  exact va_get hx rfl hts in_X14 hown hK hP q0 he (C := RX14) (T := TX14) (N := 32) rfl 25 (by decide) (hts _ q898) (fun x h => h) hv hd kk
theorem gf_15095 : gfOK RX14 95 15 15 7 := by
  intro p l e R s m args below meth c H locs cells slots Q pc ls rest D tys ws a q0 ci fs v hx hts hown hK hP he h1 h2 hv hd kk
  obtain rfl : ci = 14 := by omega
  exact va_get hx rfl hts in_X14 hown hK hP q0 he (C := RX14) (T := TX14) (N := 32) rfl 7 (by decide) (hts _ q833) (fun x h => h) hv hd kk
theorem gf_16012 : gfOK RX15 12 16 16 0 := by
  intro p l e R s m args below meth c H locs cells slots Q pc ls rest D tys ws a q0 ci fs v hx hts hown hK hP he h1 h2 hv hd kk
  obtain rfl : ci = 15 := by omega
  exact va_get hx rfl hts in_X15 hown hK hP q0 he (C := RX15) (T := TX15) (N := 64) rfl 0 (by decide) (hts _ q2280) (fun x h => h) hv hd kk
theorem gf_16016 : gfOK RX15 16 16 16 1 := by
  intro p l e R s m args below meth c H locs cells slots Q pc ls rest D tys ws a q0 ci fs v hx hts hown hK hP he h1 h2 hv hd kk
  obtain rfl : ci = 15 := by omega
  exact va_get hx rfl hts in_X15 hown hK hP q0 he (C := RX15) (T := TX15) (N := 64) rfl 1 (by decide) (hts _ q2281) (fun x h => h) hv hd kk
theorem gf_16019 : gfOK RX15 19 16 16 3 := by
  intro p l e R s m args below meth c H locs cells slots Q pc ls rest D tys ws a q0 ci fs v hx hts hown hK hP he h1 h2 hv hd kk
  obtain rfl : ci = 15 := by omega
  exact va_get hx rfl hts in_X15 hown hK hP q0 he (C := RX15) (T := TX15) (N := 64) rfl 3 (by decide) (hts _ q2283) (fun x h => h) hv hd kk
theorem gf_16023 : gfOK RX15 23 16 16 6 := by
  intro p l e R s m args below meth c H locs cells slots Q pc ls rest D tys ws a q0 ci fs v hx hts hown hK hP he h1 h2 hv hd kk
  obtain rfl : ci = 15 := by omega
  exact va_get hx rfl hts in_X15 hown hK hP q0 he (C := RX15) (T := TX15) (N := 64) rfl 6 (by decide) (hts _ q2286) (fun x h => h) hv hd kk
theorem gf_16026 : gfOK RX15 26 16 16 8 := by
  intro p l e R s m args below meth c H locs cells slots Q pc ls rest D tys ws a q0 ci fs v hx hts hown hK hP he h1 h2 hv hd kk
  obtain rfl : ci = 15 := by omega
  exact va_get hx rfl hts in_X15 hown hK hP q0 he (C := RX15) (T := TX15) (N := 64) rfl 8 (by decide) (hts _ q2288) (fun x h => h) hv hd kk
theorem gf_16030 : gfOK RX15 30 16 16 9 := by
  intro p l e R s m args below meth c H locs cells slots Q pc ls rest D tys ws a q0 ci fs v hx hts hown hK hP he h1 h2 hv hd kk
  obtain rfl : ci = 15 := by omega
  exact va_get hx rfl hts in_X15 hown hK hP q0 he (C := RX15) (T := TX15) (N := 64) rfl 9 (by decide) (hts _ q2289) (fun x h => h) hv hd kk
theorem gf_16033 : gfOK RX15 33 16 16 12 := by
  intro p l e R s m args below meth c H locs cells slots Q pc ls rest D tys ws a q0 ci fs v hx hts hown hK hP he h1 h2 hv hd kk
  obtain rfl : ci = 15 := by omega
  exact va_get hx rfl hts in_X15 hown hK hP q0 he (C := RX15) (T := TX15) (N := 64) rfl 12 (by decide) (hts _ q2292) (fun x h => h) hv hd kk
theorem gf_16037 : gfOK RX15 37 16 16 13 := by
  intro p l e R s m args below meth c H locs cells slots Q pc ls rest D tys ws a q0 ci fs v hx hts hown hK hP he h1 h2 hv hd kk
  obtain rfl : ci = 15 := by omega
  exact va_get hx rfl hts in_X15 hown hK hP q0 he (C := RX15) (T := TX15) (N := 64) rfl 13 (by decide) (hts _ q2293) (fun x h => h) hv hd kk
theorem gf_16040 : gfOK RX15 40 16 16 14 := by
  intro p l e R s m args below meth c H locs cells slots Q pc ls rest D tys ws a q0 ci fs v hx hts hown hK hP he h1 h2 hv hd kk
  obtain rfl : ci = 15 := by omega
  exact va_get hx rfl hts in_X15 hown hK hP q0 he (C := RX15) (T := TX15) (N := 64) rfl 14 (by decide) (hts _ q2294) (fun x h => h) hv hd kk
theorem gf_16043 : gfOK RX15 43 16 16 15 := by
  intro p l e R s m args below meth c H locs cells slots Q pc ls rest D tys ws a q0 ci fs v hx hts hown hK hP he h1 h2 hv hd kk
  obtain rfl : ci = 15 := by omega
  exact va_get hx rfl hts in_X15 hown hK hP q0 he (C := RX15) (T := TX15) (N := 64) rfl 15 (by decide) (hts _ q2295) (fun x h => h) hv hd kk
theorem gf_16046 : gfOK RX15 46 16 16 16 := by
  intro p l e R s m args below meth c H locs cells slots Q pc ls rest D tys ws a q0 ci fs v hx hts hown hK hP he h1 h2 hv hd kk
  obtain rfl : ci = 15 := by omega
  exact va_get hx rfl hts in_X15 hown hK hP q0 he (C := RX15) (T := TX15) (N := 64) rfl 16 (by decide) (hts _ q2296) (fun x h => h) hv hd kk
theorem gf_16049 : gfOK RX15 49 16 16 17 := by
  intro p l e R s m args below meth c H locs cells slots Q pc ls rest D tys ws a q0 ci fs v hx hts hown hK hP he h1 h2 hv hd kk
  obtain rfl : ci = 15 := by omega
  exact va_get hx rfl hts in_X15 hown hK hP q0 he (C := RX15) (T := TX15) (N := 64) rfl 17 (by decide) (hts _ q2297) (fun x h => h) hv hd kk
theorem gf_16052 : gfOK RX15 52 16 16 18 := by
  intro p l e R s m args below meth c H locs cells slots Q pc ls rest D tys ws a q0 ci fs v hx hts hown hK hP he h1 h2 hv hd kk
  obtain rfl : ci = 15 := by omega
  exact va_get hx rfl hts in_X15 hown hK hP q0 he (C := RX15) (T := TX15) (N := 64) rfl 18 (by decide) (hts _ q2298) (fun x h => h) hv hd kk
theorem gf_16055 : gfOK RX15 55 16 16 20 := by
  intro p l e R s m args below meth c H locs cells slots Q pc ls rest D tys ws a q0 ci fs v hx hts hown hK hP he h1 h2 hv hd kk
  obtain rfl : ci = 15 := by omega
  exact va_get hx rfl hts in_X15 hown hK hP q0 he (C := RX15) (T := TX15) (N := 64) rfl 20 (by decide) (hts _ q2300) (fun x h => h) hv hd kk
theorem gf_16058 : gfOK RX15 58 16 16 21 := by
  intro p l e R s m args below meth c H locs cells slots Q pc ls rest D tys ws a q0 ci fs v hx hts hown hK hP he h1 h2 hv hd kk
  obtain rfl : ci = 15 := by omega
  exact va_get hx rfl hts in_X15 hown hK hP q0 he (C := RX15) (T := TX15) (N := 64) rfl 21 (by decide) (hts _ q2301) (fun x h => h) hv hd kk
theorem gf_16061 : gfOK RX15 61 16 16 22 := by
  intro p l e R s m args below meth c H locs cells slots Q pc ls rest D tys ws a q0 ci fs v hx hts hown hK hP he h1 h2 hv hd kk
  obtain rfl : ci = 15 := by omega
  exact va_get hx rfl hts in_X15 hown hK hP q0 he (C := RX15) (T := TX15) (N := 64) rfl 22 (by decide) (hts _ q2302) (fun x h => h) hv hd kk
theorem gf_16065 : gfOK RX15 65 16 16 23 := by
  intro p l e R s m args below meth c H locs cells slots Q pc ls rest D tys ws a q0 ci fs v hx hts hown hK hP he h1 h2 hv hd kk
  obtain rfl : ci = 15 := by omega
  exact va_get hx rfl hts in_X15 hown hK hP q0 he (C := RX15) (T := TX15) (N := 64) rfl 23 (by decide) (hts _ q2303) (fun x h => h) hv hd kk
theorem gf_16068 : gfOK RX15 68 16 16 24 := by
  intro p l e R s m args below meth c H locs cells slots Q pc ls rest D tys ws a q0 ci fs v hx hts hown hK hP he h1 h2 hv hd kk
  obtain rfl : ci = 15 := by omega
  exact va_get hx rfl hts in_X15 hown hK hP q0 he (C := RX15) (T := TX15) (N := 64) rfl 24 (by decide) (hts _ q2304) (fun x h => h) hv hd kk
theorem gf_16071 : gfOK RX15 71 16 16 26 := by
  intro p l e R s m args below meth c H locs cells slots Q pc ls rest D tys ws a q0 ci fs v hx hts hown hK hP he h1 h2 hv hd kk
  obtain rfl : ci = 15 := by omega
  exact va_get hx rfl hts in_X15 hown hK hP q0 he (C := RX15) (T := TX15) (N := 64) rfl 26 (by decide) (hts _ q2306) (fun x h => h) hv hd kk
theorem gf_16074 : gfOK RX15 74 16 16 27 := by
  intro p l e R s m args below meth c H locs cells slots Q pc ls rest D tys ws a q0 ci fs v hx hts hown hK hP he h1 h2 hv hd kk
  obtain rfl : ci = 15 := by omega
  exact va_get hx rfl hts in_X15 hown hK hP q0 he (C := RX15) (T := TX15) (N := 64) rfl 27 (by decide) (hts _ q2307) (fun x h => h) hv hd kk
theorem gf_16077 : gfOK RX15 77 16 16 28 := by
  intro p l e R s m args below meth c H locs cells slots Q pc ls rest D tys ws a q0 ci fs v hx hts hown hK hP he h1 h2 hv hd kk
  obtain rfl : ci = 15 := by omega
  exact va_get hx rfl hts in_X15 hown hK hP q0 he (C := RX15) (T := TX15) (N := 64) rfl 28 (by decide) (hts _ q2308) (fun x h => h) hv hd kk
theorem gf_16080 : gfOK RX15 80 16 16 29 := by
  intro p l e R s m args below meth c H locs cells slots Q pc ls rest D tys ws a q0 ci fs v hx hts hown hK hP he h1 h2 hv hd kk
  obtain rfl : ci = 15 := by omega
  exact va_get hx rfl hts in_X15 hown hK hP q0 he (C := RX15) (T := TX15) (N := 64) rfl 29 (by decide) (hts _ q2309) (fun x h => h) hv hd kk
theorem gf_16084 : gfOK RX15 84 16 16 30 := by
  intro p l e R s m args below meth c H locs cells slots Q pc ls rest D tys ws a q0 ci fs v hx hts hown hK hP he h1 h2 hv hd kk
  obtain rfl : ci = 15 := by omega
  exact va_get hx rfl hts in_X15 hown hK hP q0 he (C := RX15) (T := TX15) (N := 64) rfl 30 (by decide) (hts _ q2310) (fun x h => h) hv hd kk
theorem gf_16087 : gfOK RX15 87 16 16 31 := by
  intro p l e R s m args below meth c H locs cells slots Q pc ls rest D tys ws a q0 ci fs v hx hts hown hK hP he h1 h2 hv hd kk
  obtain rfl : ci = 15 := by omega
  exact va_get hx rfl hts in_X15 hown hK hP q0 he (C := RX15) (T := TX15) (N := 64) rfl 31 (by decide) (hts _ q2311) (fun x h => h) hv hd kk
theorem gf_16090 : gfOK RX15 90 16 16 32 := by
  intro p l e R s m args below meth c H locs cells slots Q pc ls rest D tys ws a q0 ci fs v hx hts hown hK hP he h1 h2 hv hd kk
  obtain rfl : ci = 15 := by omega
  exact va_get hx rfl hts in_X15 hown hK hP q0 he (C := RX15) (T := TX15) (N := 64) rfl 32 (by decide) (hts _ q2312) (fun x h => h) hv hd kk
theorem gf_16093 : gfOK RX15 93 16 16 33 := by
  intro p l e R s m args below meth c H locs cells slots Q pc ls rest D tys ws a q0 ci fs v hx hts hown hK hP he h1 h2 hv hd kk
  obtain rfl : ci = 15 := by omega
  exact va_get hx rfl hts in_X15 hown hK hP q0 he (C := RX15) (T := TX15) (N := 64) rfl 33 (by decide) (hts _ q2313) (fun x h => h) hv hd kk
theorem gf_16096 : gfOK RX15 96 16 16 34 := by
  intro p l e R s m args below meth c H locs cells slots Q pc ls rest D tys ws a q0 ci fs v hx hts hown hK hP he h1 h2 hv hd kk
  obtain rfl : ci = 15 := by omega
  exact va_get hx rfl hts in_X15 hown hK hP q0 he (C := RX15) (T := TX15) (N := 64) rfl 34 (by decide) (hts _ q2314) (fun x h => h) hv hd kk
theorem gf_16099 : gfOK RX15 99 16 16 35 := by
  intro p l e R s m args below meth c H locs cells slots Q pc ls rest D tys ws a q0 ci fs v hx hts hown hK hP he h1 h2 hv hd kk
  obtain rfl : ci = 15 := by omega
  exact va_get hx rfl hts in_X15 hown hK hP q0 he (C := RX15) (T := TX15) (N := 64) rfl 35 (by decide) (hts _ q2315) (fun x h => h) hv hd kk
theorem gf_16102 : gfOK RX15 102 16 16 41 := by
  intro p l e R s m args below meth c H locs cells slots Q pc ls rest D tys ws a q0 ci fs v hx hts hown hK hP he h1 h2 hv hd kk
  obtain rfl : ci = 15 := by omega
  exact va_get hx rfl hts in_X15 hown hK hP q0 he (C := RX15) (T := TX15) (N := 64) rfl 41 (by decide) (hts _ q2321) (fun x h => h) hv hd kk
theorem gf_16105 : gfOK RX15 105 16 16 42 := by
  intro p l e R s m args below meth c H locs cells slots Q pc ls rest D tys ws a q0 ci fs v hx hts hown hK hP he h1 h2 hv hd kk
  obtain rfl : ci = 15 := by omega
  exact va_get hx rfl hts in_X15 hown hK hP q0 he (C := RX15) (T := TX15) (N := 64) rfl 42 (by decide) (hts _ q2322) (fun x h => h) hv hd kk
theorem gf_16108 : gfOK RX15 108 16 16 43 := by
  intro p l e R s m args below meth c H locs cells slots Q pc ls rest D tys ws a q0 ci fs v hx hts hown hK hP he h1 h2 hv hd kk
  obtain rfl : ci = 15 := by omega
  exact va_get hx rfl hts in_X15 hown hK hP q0 he (C := RX15) (T := TX15) (N := 64) rfl 43 (by decide) (hts _ q2323) (fun x h => h) hv hd kk
theorem gf_16111 : gfOK RX15 111 16 16 44 := by
  intro p l e R s m args below meth c H locs cells slots Q pc ls rest D tys ws a q0 ci fs v hx hts hown hK hP he h1 h2 hv hd kk
  obtain rfl : ci = 15 := by omega
  exact va_get hx rfl hts in_X15 hown hK hP q0 he (C := RX15) (T := TX15) (N := 64) rfl 44 (by decide) (hts _ q2324) (fun x h => h) hv hd kk
theorem gf_16114 : gfOK RX15 114 16 16 45 := by
  intro p l e R s m args below meth c H locs cells slots Q pc ls rest D tys ws a q0 ci fs v hx hts hown hK hP he h1 h2 hv hd kk
  obtain rfl : ci = 15 := by omega
  exact va_get hx rfl hts in_X15 hown hK hP q0 he (C := RX15) (T := TX15) (N := 64) rfl 45 (by decide) (hts _ q2325) (fun x h => h) hv hd kk
theorem gf_16117 : gfOK RX15 117 16 16 46 := by
  intro p l e R s m args below meth c H locs cells slots Q pc ls rest D tys ws a q0 ci fs v hx hts hown hK hP he h1 h2 hv hd kk
  obtain rfl : ci = 15 := by omega
  exact va_get hx rfl hts in_X15 hown hK hP q0 he (C := RX15) (T := TX15) (N := 64) rfl 46 (by decide) (hts _ q2326) (fun x h => h) hv hd kk
theorem gf_16120 : gfOK RX15 120 16 16 47 := by
  intro p l e R s m args below meth c H locs cells slots Q pc ls rest D tys ws a q0 ci fs v hx hts hown hK hP he h1 h2 hv hd kk
  obtain rfl : ci = 15 := by omega
  exact va_get hx rfl hts in_X15 hown hK hP q0 he (C := RX15) (T := TX15) (N := 64) rfl 47 (by decide) (hts _ q2327) (fun x h => h) hv hd kk
theorem gf_16123 : gfOK RX15 123 16 16 48 := by
  intro p l e R s m args below meth c H locs cells slots Q pc ls rest D tys ws a q0 ci fs v hx hts hown hK hP he h1 h2 hv hd kk
  obtain rfl : ci = 15 := by omega
  exact va_get hx rfl hts in_X15 hown hK hP q0 he (C := RX15) (T := TX15) (N := 64) rfl 48 (by decide) (hts _ q2328) (fun x h => h) hv hd kk
theorem gf_16126 : gfOK RX15 126 16 16 49 := by
  intro p l e R s m args below meth c H locs cells slots Q pc ls rest D tys ws a q0 ci fs v hx hts hown hK hP he h1 h2 hv hd kk
  obtain rfl : ci = 15 := by omega
  exact va_get hx rfl hts in_X15 hown hK hP q0 he (C := RX15) (T := TX15) (N := 64) rfl 49 (by decide) (hts _ q2329) (fun x h => h) hv hd kk
theorem gf_16129 : gfOK RX15 129 16 16 50 := by
  intro p l e R s m args below meth c H locs cells slots Q pc ls rest D tys ws a q0 ci fs v hx hts hown hK hP he h1 h2 hv hd kk
  obtain rfl : ci = 15 := by omega
  exact va_get hx rfl hts in_X15 hown hK hP q0 he (C := RX15) (T := TX15) (N := 64) rfl 50 (by decide) (hts _ q2330) (fun x h => h) hv hd kk
theorem gf_16132 : gfOK RX15 132 16 16 51 := by
  intro p l e R s m args below meth c H locs cells slots Q pc ls rest D tys ws a q0 ci fs v hx hts hown hK hP he h1 h2 hv hd kk
  obtain rfl : ci = 15 := by omega
  exact va_get hx rfl hts in_X15 hown hK hP q0 he (C := RX15) (T := TX15) (N := 64) rfl 51 (by decide) (hts _ q2331) (fun x h => h) hv hd kk
theorem gf_16135 : gfOK RX15 135 16 16 59 := by
  intro p l e R s m args below meth c H locs cells slots Q pc ls rest D tys ws a q0 ci fs v hx hts hown hK hP he h1 h2 hv hd kk
  obtain rfl : ci = 15 := by omega
  exact va_get hx rfl hts in_X15 hown hK hP q0 he (C := RX15) (T := TX15) (N := 64) rfl 59 (by decide) (hts _ q2339) (fun x h => h) hv hd kk
theorem gf_16138 : gfOK RX15 138 16 16 60 := by
  intro p l e R s m args below meth c H locs cells slots Q pc ls rest D tys ws a q0 ci fs v hx hts hown hK hP he h1 h2 hv hd kk
  obtain rfl : ci = 15 := by omega
  exact va_get hx rfl hts in_X15 hown hK hP q0 he (C := RX15) (T := TX15) (N := 64) rfl 60 (by decide) (hts _ q2340) (fun x h => h) hv hd kk
theorem gf_16141 : gfOK RX15 141 16 16 4 := by
  intro p l e R s m args below meth c H locs cells slots Q pc ls rest D tys ws a q0 ci fs v hx hts hown hK hP he h1 h2 hv hd kk
  obtain rfl : ci = 15 := by omega
  exact va_get hx rfl hts in_X15 hown hK hP q0 he (C := RX15) (T := TX15) (N := 64) rfl 4 (by decide) (hts _ q2284) (fun x h => h) hv hd kk
theorem gf_16144 : gfOK RX15 144 16 16 5 := by
  intro p l e R s m args below meth c H locs cells slots Q pc ls rest D tys ws a q0 ci fs v hx hts hown hK hP he h1 h2 hv hd kk
  obtain rfl : ci = 15 := by omega
  exact va_get hx rfl hts in_X15 hown hK hP q0 he (C := RX15) (T := TX15) (N := 64) rfl 5 (by decide) (hts _ q2285) (fun x h => h) hv hd kk
theorem gf_16152 : gfOK RX15 152 16 16 7 := by
  intro p l e R s m args below meth c H locs cells slots Q pc ls rest D tys ws a q0 ci fs v hx hts hown hK hP he h1 h2 hv hd kk
  obtain rfl : ci = 15 := by omega
  exact va_get hx rfl hts in_X15 hown hK hP q0 he (C := RX15) (T := TX15) (N := 64) rfl 7 (by decide) (hts _ q2287) (fun x h => h) hv hd kk
theorem gf_16155 : gfOK RX15 155 16 16 10 := by
  intro p l e R s m args below meth c H locs cells slots Q pc ls rest D tys ws a q0 ci fs v hx hts hown hK hP he h1 h2 hv hd kk
  obtain rfl : ci = 15 := by omega
  exact va_get hx rfl hts in_X15 hown hK hP q0 he (C := RX15) (T := TX15) (N := 64) rfl 10 (by decide) (hts _ q2290) (fun x h => h) hv hd kk
theorem gf_16194 : gfOK RX15 194 16 16 11 := by
  intro p l e R s m args below meth c H locs cells slots Q pc ls rest D tys ws a q0 ci fs v hx hts hown hK hP he h1 h2 hv hd kk
  obtain rfl : ci = 15 := by omega
  exact va_get hx rfl hts in_X15 hown hK hP q0 he (C := RX15) (T := TX15) (N := 64) rfl 11 (by decide) (hts _ q2291) (fun x h => h) hv hd kk
theorem gf_16267 : gfOK RX15 267 17 17 0 := by
  intro p l e R s m args below meth c H locs cells slots Q pc ls rest D tys ws a q0 ci fs v hx hts hown hK hP he h1 h2 hv hd kk
  obtain rfl : ci = 16 := by omega
  exact va_get hx rfl hts in_X16 hown hK hP q0 he (C := RX16) (T := TX16) (N := 53) rfl 0 (by decide) (hts _ q2075) (fun x h => h) hv hd kk
theorem gf_16280 : gfOK RX15 280 17 17 8 := by
  intro p l e R s m args below meth c H locs cells slots Q pc ls rest D tys ws a q0 ci fs v hx hts hown hK hP he h1 h2 hv hd kk
  obtain rfl : ci = 16 := by omega
  exact va_get hx rfl hts in_X16 hown hK hP q0 he (C := RX16) (T := TX16) (N := 53) rfl 8 (by decide) (hts _ q2084) (fun x h => h) hv hd kk
theorem gf_16293 : gfOK RX15 293 17 17 1 := by
  intro p l e R s m args below meth c H locs cells slots Q pc ls rest D tys ws a q0 ci fs v hx hts hown hK hP he h1 h2 hv hd kk
  obtain rfl : ci = 16 := by omega
  exact va_get hx rfl hts in_X16 hown hK hP q0 he (C := RX16) (T := TX16) (N := 53) rfl 1 (by decide) (hts _ q2076) (fun x h => h) hv hd kk
theorem gf_16296 : gfOK RX15 296 17 17 10 := by
  intro p l e R s m args below meth c H locs cells slots Q pc ls rest D tys ws a q0 ci fs v hx hts hown hK hP he h1 h2 hv hd kk
  obtain rfl : ci = 16 := by omega
  exact va_get hx rfl hts in_X16 hown hK hP q0 he (C := RX16) (T := TX16) (N := 53) rfl 10 (by decide) (hts _ q2088) (fun x h => h) hv hd kk
theorem gf_16303 : gfOK RX15 303 17 17 2 := by
  intro p l e R s m args below meth c H locs cells slots Q pc ls rest D tys ws a q0 ci fs v hx hts hown hK hP he h1 h2 hv hd kk
  obtain rfl : ci = 16 := by omega
  exact va_get hx rfl hts in_X16 hown hK hP q0 he (C := RX16) (T := TX16) (N := 53) rfl 2 (by decide) (hts _ q2077) (fun x h => h) hv hd kk
theorem gf_16306 : gfOK RX15 306 17 17 13 := by
  intro p l e R s m args below meth c H locs cells slots Q pc ls rest D tys ws a q0 ci fs v hx hts hown hK hP he h1 h2 hv hd kk
  obtain rfl : ci = 16 := by omega
  exact va_get hx rfl hts in_X16 hown hK hP q0 he (C := RX16) (T := TX16) (N := 53) rfl 13 (by decide) (hts _ q2094) (fun x h => h) hv hd kk
theorem gf_16324 : gfOK RX15 324 17 17 11 := by
  intro p l e R s m args below meth c H locs cells slots Q pc ls rest D tys ws a q0 ci fs v hx hts hown hK hP he h1 h2 hv hd kk
  obtain rfl : ci = 16 := by omega
  exact va_get hx rfl hts in_X16 hown hK hP q0 he (C := RX16) (T := TX16) (N := 53) rfl 11 (by decide) (hts _ q2090) (fun x h => h) hv hd kk
theorem gf_16334 : gfOK RX15 334 17 17 14 := by
  intro p l e R s m args below meth c H locs cells slots Q pc ls rest D tys ws a q0 ci fs v hx hts hown hK hP he h1 h2 hv hd kk
  obtain rfl : ci = 16 := by omega
  exact va_get hx rfl hts in_X16 hown hK hP q0 he (C := RX16) (T := TX16) (N := 53) rfl 14 (by decide) (hts _ q2096) (fun x h => h) hv hd kk
theorem gf_16340 : gfOK RX15 340 17 17 16 := by
  intro p l e R s m args below meth c H locs cells slots Q pc ls rest D tys ws a q0 ci fs v hx hts hown hK hP he h1 h2 hv hd kk
  obtain rfl : ci = 16 := by omega
  exact va_get hx rfl hts in_X16 hown hK hP q0 he (C := RX16) (T := TX16) (N := 53) rfl 16 (by decide) (hts _ q2100) (fun x h => h) hv hd kk
theorem gf_16343 : gfOK RX15 343 17 17 17 := by
  intro p l e R s m args below meth c H locs cells slots Q pc ls rest D tys ws a q0 ci fs v hx hts hown hK hP he h1 h2 hv hd kk
  obtain rfl : ci = 16 := by omega
  exact va_get hx rfl hts in_X16 hown hK hP q0 he (C := RX16) (T := TX16) (N := 53) rfl 17 (by decide) (hts _ q2102) (fun x h => h) hv hd kk
theorem gf_16348 : gfOK RX15 348 17 17 15 := by
  intro p l e R s m args below meth c H locs cells slots Q pc ls rest D tys ws a q0 ci fs v hx hts hown hK hP he h1 h2 hv hd kk
  obtain rfl : ci = 16 := by omega
  exact va_get hx rfl hts in_X16 hown hK hP q0 he (C := RX16) (T := TX16) (N := 53) rfl 15 (by decide) (hts _ q2098) (fun x h => h) hv hd kk
theorem gf_16351 : gfOK RX15 351 17 17 18 := by
  intro p l e R s m args below meth c H locs cells slots Q pc ls rest D tys ws a q0 ci fs v hx hts hown hK hP he h1 h2 hv hd kk
  obtain rfl : ci = 16 := by omega
  exact va_get hx rfl hts in_X16 hown hK hP q0 he (C := RX16) (T := TX16) (N := 53) rfl 18 (by decide) (hts _ q2104) (fun x h => h) hv hd kk
theorem gf_16353 : gfOK RX15 353 17 17 3 := by
  intro p l e R s m args below meth c H locs cells slots Q pc ls rest D tys ws a q0 ci fs v hx hts hown hK hP he h1 h2 hv hd kk
  obtain rfl : ci = 16 := by omega
  exact va_get hx rfl hts in_X16 hown hK hP q0 he (C := RX16) (T := TX16) (N := 53) rfl 3 (by decide) (hts _ q2078) (fun x h => h) hv hd kk
theorem gf_16356 : gfOK RX15 356 17 17 4 := by
  intro p l e R s m args below meth c H locs cells slots Q pc ls rest D tys ws a q0 ci fs v hx hts hown hK hP he h1 h2 hv hd kk
  obtain rfl : ci = 16 := by omega
  exact va_get hx rfl hts in_X16 hown hK hP q0 he (C := RX16) (T := TX16) (N := 53) rfl 4 (by decide) (hts _ q2079) (fun x h => h) hv hd kk
theorem gf_16359 : gfOK RX15 359 17 17 5 := by
  intro p l e R s m args below meth c H locs cells slots Q pc ls rest D tys ws a q0 ci fs v hx hts hown hK hP he h1 h2 hv hd kk
  obtain rfl : ci = 16 := by omega
  exact va_get hx rfl hts in_X16 hown hK hP q0 he (C := RX16) (T := TX16) (N := 53) rfl 5 (by decide) (hts _ q2080) (fun x h => h) hv hd kk
theorem gf_16362 : gfOK RX15 362 17 17 7 := by
  intro p l e R s m args below meth c H locs cells slots Q pc ls rest D tys ws a q0 ci fs v hx hts hown hK hP he h1 h2 hv hd kk
  obtain rfl : ci = 16 := by omega
  exact va_get hx rfl hts in_X16 hown hK hP q0 he (C := RX16) (T := TX16) (N := 53) rfl 7 (by decide) (hts _ q2082) (fun x h => h) hv hd kk
theorem gf_16369 : gfOK RX15 369 17 17 19 := by
  intro p l e R s m args below meth c H locs cells slots Q pc ls rest D tys ws a q0 ci fs v hx hts hown hK hP he h1 h2 hv hd kk
  obtain rfl : ci = 16 := by omega
  exact va_get hx rfl hts in_X16 hown hK hP q0 he (C := RX16) (T := TX16) (N := 53) rfl 19 (by decide) (hts _ q2106) (fun x h => h) hv hd kk
theorem gf_16372 : gfOK RX15 372 16 16 19 := by
  intro p l e R s m args below meth c H locs cells slots Q pc ls rest D tys ws a q0 ci fs v hx hts hown hK hP he h1 h2 hv hd kk
  obtain rfl : ci = 15 := by omega
  exact va_get hx rfl hts in_X15 hown hK hP q0 he (C := RX15) (T := TX15) (N := 64) rfl 19 (by decide) (hts _ q2299) (fun x h => h) hv hd kk
theorem gf_16378 : gfOK RX15 378 17 17 20 := by
  intro p l e R s m args below meth c H locs cells slots Q pc ls rest D tys ws a q0 ci fs v hx hts hown hK hP he h1 h2 hv hd kk
  obtain rfl : ci = 16 := by omega
  exact va_get hx rfl hts in_X16 hown hK hP q0 he (C := RX16) (T := TX16) (N := 53) rfl 20 (by decide) (hts _ q2108) (fun x h => h) hv hd kk
theorem gf_16391 : gfOK RX15 391 17 17 22 := by
  intro p l e R s m args below meth c H locs cells slots Q pc ls rest D tys ws a q0 ci fs v hx hts hown hK hP he h1 h2 hv hd kk
  obtain rfl : ci = 16 := by omega
  exact va_get hx rfl hts in_X16 hown hK hP q0 he (C := RX16) (T := TX16) (N := 53) rfl 22 (by decide) (hts _ q2112) (fun x h => h) hv hd kk
theorem gf_16397 : gfOK RX15 397 17 17 28 := by
  intro p l e R s m args below meth c H locs cells slots Q pc ls rest D tys ws a q0 ci fs v hx hts hown hK hP he h1 h2 hv hd kk
  obtain rfl : ci = 16 := by omega
  exact va_get hx rfl hts in_X16 hown hK hP q0 he (C := RX16) (T := TX16) (N := 53) rfl 28 (by decide) (hts _ q2124) (fun x h => h) hv hd kk
theorem gf_16400 : gfOK RX15 400 17 17 29 := by
  intro p l e R s m args below meth c H locs cells slots Q pc ls rest D tys ws a q0 ci fs v hx hts hown hK hP he h1 h2 hv hd kk
  obtain rfl : ci = 16 := by omega
  exact va_get hx rfl hts in_X16 hown hK hP q0 he (C := RX16) (T := TX16) (N := 53) rfl 29 (by decide) (hts _ q2126) (fun x h => h) hv hd kk
theorem gf_16403 : gfOK RX15 403 17 17 30 := by
  intro p l e R s m args below meth c H locs cells slots Q pc ls rest D tys ws a q0 ci fs v hx hts hown hK hP he h1 h2 hv hd kk
  obtain rfl : ci = 16 := by omega
  exact va_get hx rfl hts in_X16 hown hK hP q0 he (C := RX16) (T := TX16) (N := 53) rfl 30 (by decide) (hts _ q2128) (fun x h => h) hv hd kk
theorem gf_16406 : gfOK RX15 406 17 17 31 := by
  intro p l e R s m args below meth c H locs cells slots Q pc ls rest D tys ws a q0 ci fs v hx hts hown hK hP he h1 h2 hv hd kk
  obtain rfl : ci = 16 := by omega
  exact va_get hx rfl hts in_X16 hown hK hP q0 he (C := RX16) (T := TX16) (N := 53) rfl 31 (by decide) (hts _ q2130) (fun x h => h) hv hd kk
theorem gf_16409 : gfOK RX15 409 17 17 32 := by
  intro p l e R s m args below meth c H locs cells slots Q pc ls rest D tys ws a q0 ci fs v hx hts hown hK hP he h1 h2 hv hd kk
  obtain rfl : ci = 16 := by omega
  exact va_get hx rfl hts in_X16 hown hK hP q0 he (C := RX16) (T := TX16) (N := 53) rfl 32 (by decide) (hts _ q2132) (fun x h => h) hv hd kk
theorem gf_16412 : gfOK RX15 412 17 17 25 := by
  intro p l e R s m args below meth c H locs cells slots Q pc ls rest D tys ws a q0 ci fs v hx hts hown hK hP he h1 h2 hv hd kk
  obtain rfl : ci = 16 := by omega
  exact va_get hx rfl hts in_X16 hown hK hP q0 he (C := RX16) (T := TX16) (N := 53) rfl 25 (by decide) (hts _ q2118) (fun x h => h) hv hd kk
theorem gf_16414 : gfOK RX15 414 17 17 23 := by
  intro p l e R s m args below meth c H locs cells slots Q pc ls rest D tys ws a q0 ci fs v hx hts hown hK hP he h1 h2 hv hd kk
  obtain rfl : ci = 16 := by omega
  exact va_get hx rfl hts in_X16 hown hK hP q0 he (C := RX16) (T := TX16) (N := 53) rfl 23 (by decide) (hts _ q2114) (fun x h => h) hv hd kk
theorem gf_16417 : gfOK RX15 417 17 17 24 := by
  intro p l e R s m args below meth c H locs cells slots Q pc ls rest D tys ws a q0 ci fs v hx hts hown hK hP he h1 h2 hv hd kk
  obtain rfl : ci = 16 := by omega
  exact va_get hx rfl hts in_X16 hown hK hP q0 he (C := RX16) (T := TX16) (N := 53) rfl 24 (by decide) (hts _ q2116) (fun x h => h) hv hd kk
theorem gf_16432 : gfOK RX15 432 17 17 27 := by
  intro p l e R s m args below meth c H locs cells slots Q pc ls rest D tys ws a q0 ci fs v hx hts hown hK hP he h1 h2 hv hd kk
  obtain rfl : ci = 16 := by omega
  exact va_get hx rfl hts in_X16 hown hK hP q0 he (C := RX16) (T := TX16) (N := 53) rfl 27 (by decide) (hts _ q2122) (fun x h => h) hv hd kk
theorem gf_16438 : gfOK RX15 438 17 17 33 := by
  intro p l e R s m args below meth c H locs cells slots Q pc ls rest D tys ws a q0 ci fs v hx hts hown hK hP he h1 h2 hv hd kk
  obtain rfl : ci = 16 := by omega
  exact va_get hx rfl hts in_X16 hown hK hP q0 he (C := RX16) (T := TX16) (N := 53) rfl 33 (by decide) (hts _ q2134) (fun x h => h) hv hd kk
theorem gf_16444 : gfOK RX15 444 17 17 9 := by
  intro p l e R s m args below meth c H locs cells slots Q pc ls rest D tys ws a q0 ci fs v hx hts hown hK hP he h1 h2 hv hd kk
  obtain rfl : ci = 16 := by omega
  exact va_get hx rfl hts in_X16 hown hK hP q0 he (C := RX16) (T := TX16) (N := 53) rfl 9 (by decide) (hts _ q2086) (fun x h => h) hv hd kk
theorem gf_16447 : gfOK RX15 447 17 17 12 := by
  intro p l e R s m args below meth c H locs cells slots Q pc ls rest D tys ws a q0 ci fs v hx hts hown hK hP he h1 h2 hv hd kk
  obtain rfl : ci = 16 := by omega
  exact va_get hx rfl hts in_X16 hown hK hP q0 he (C := RX16) (T := TX16) (N := 53) rfl 12 (by decide) (hts _ q2092) (fun x h => h) hv hd kk
theorem gf_16450 : gfOK RX15 450 17 17 21 := by
  intro p l e R s m args below meth c H locs cells slots Q pc ls rest D tys ws a q0 ci fs v hx hts hown hK hP he h1 h2 hv hd kk
  obtain rfl : ci = 16 := by omega
  exact va_get hx rfl hts in_X16 hown hK hP q0 he (C := RX16) (T := TX16) (N := 53) rfl 21 (by decide) (hts _ q2110) (fun x h => h) hv hd kk
theorem gf_16453 : gfOK RX15 453 17 17 6 := by
  intro p l e R s m args below meth c H locs cells slots Q pc ls rest D tys ws a q0 ci fs v hx hts hown hK hP he h1 h2 hv hd kk
  obtain rfl : ci = 16 := by omega
  exact va_get hx rfl hts in_X16 hown hK hP q0 he (C := RX16) (T := TX16) (N := 53) rfl 6 (by decide) (hts _ q2081) (fun x h => h) hv hd kk
theorem gf_16474 : gfOK RX15 474 17 17 26 := by
  intro p l e R s m args below meth c H locs cells slots Q pc ls rest D tys ws a q0 ci fs v hx hts hown hK hP he h1 h2 hv hd kk
  obtain rfl : ci = 16 := by omega
  exact va_get hx rfl hts in_X16 hown hK hP q0 he (C := RX16) (T := TX16) (N := 53) rfl 26 (by decide) (hts _ q2120) (fun x h => h) hv hd kk
theorem gf_16495 : gfOK RX15 495 16 16 25 := by
  intro p l e R s m args below meth c H locs cells slots Q pc ls rest D tys ws a q0 ci fs v hx hts hown hK hP he h1 h2 hv hd kk
  obtain rfl : ci = 15 := by omega
  exact va_get hx rfl hts in_X15 hown hK hP q0 he (C := RX15) (T := TX15) (N := 64) rfl 25 (by decide) (hts _ q2305) (fun x h => h) hv hd kk
theorem gf_16529 : gfOK RX15 529 17 17 35 := by
  intro p l e R s m args below meth c H locs cells slots Q pc ls rest D tys ws a q0 ci fs v hx hts hown hK hP he h1 h2 hv hd kk
  obtain rfl : ci = 16 := by omega
  exact va_get hx rfl hts in_X16 hown hK hP q0 he (C := RX16) (T := TX16) (N := 53) rfl 35 (by decide) (hts _ q2138) (fun x h => h) hv hd kk
theorem gf_16530 : gfOK RX15 530 17 17 36 := by
  intro p l e R s m args below meth c H locs cells slots Q pc ls rest D tys ws a q0 ci fs v hx hts hown hK hP he h1 h2 hv hd kk
  obtain rfl : ci = 16 := by omega
  exact va_get hx rfl hts in_X16 hown hK hP q0 he (C := RX16) (T := TX16) (N := 53) rfl 36 (by decide) (hts _ q2140) (fun x h => h) hv hd kk
theorem gf_16531 : gfOK RX15 531 17 17 37 := by
  intro p l e R s m args below meth c H locs cells slots Q pc ls rest D tys ws a q0 ci fs v hx hts hown hK hP he h1 h2 hv hd kk
  obtain rfl : ci = 16 := by omega
  exact va_get hx rfl hts in_X16 hown hK hP q0 he (C := RX16) (T := TX16) (N := 53) rfl 37 (by decide) (hts _ q2142) (fun x h => h) hv hd kk
theorem gf_16532 : gfOK RX15 532 17 17 38 := by
  intro p l e R s m args below meth c H locs cells slots Q pc ls rest D tys ws a q0 ci fs v hx hts hown hK hP he h1 h2 hv hd kk
  obtain rfl : ci = 16 := by omega
  exact va_get hx rfl hts in_X16 hown hK hP q0 he (C := RX16) (T := TX16) (N := 53) rfl 38 (by decide) (hts _ q2144) (fun x h => h) hv hd kk
theorem gf_16533 : gfOK RX15 533 17 17 39 := by
  intro p l e R s m args below meth c H locs cells slots Q pc ls rest D tys ws a q0 ci fs v hx hts hown hK hP he h1 h2 hv hd kk
  obtain rfl : ci = 16 := by omega
  exact va_get hx rfl hts in_X16 hown hK hP q0 he (C := RX16) (T := TX16) (N := 53) rfl 39 (by decide) (hts _ q2146) (fun x h => h) hv hd kk
theorem gf_16535 : gfOK RX15 535 17 17 40 := by
  intro p l e R s m args below meth c H locs cells slots Q pc ls rest D tys ws a q0 ci fs v hx hts hown hK hP he h1 h2 hv hd kk
  obtain rfl : ci = 16 := by omega
  exact va_get hx rfl hts in_X16 hown hK hP q0 he (C := RX16) (T := TX16) (N := 53) rfl 40 (by decide) (hts _ q2148) (fun x h => h) hv hd kk
theorem gf_16536 : gfOK RX15 536 17 17 41 := by
  intro p l e R s m args below meth c H locs cells slots Q pc ls rest D tys ws a q0 ci fs v hx hts hown hK hP he h1 h2 hv hd kk
  obtain rfl : ci = 16 := by omega
  exact va_get hx rfl hts in_X16 hown hK hP q0 he (C := RX16) (T := TX16) (N := 53) rfl 41 (by decide) (hts _ q2150) (fun x h => h) hv hd kk
theorem gf_16537 : gfOK RX15 537 17 17 42 := by
  intro p l e R s m args below meth c H locs cells slots Q pc ls rest D tys ws a q0 ci fs v hx hts hown hK hP he h1 h2 hv hd kk
  obtain rfl : ci = 16 := by omega
  exact va_get hx rfl hts in_X16 hown hK hP q0 he (C := RX16) (T := TX16) (N := 53) rfl 42 (by decide) (hts _ q2152) (fun x h => h) hv hd kk
theorem gf_16538 : gfOK RX15 538 17 17 43 := by
  intro p l e R s m args below meth c H locs cells slots Q pc ls rest D tys ws a q0 ci fs v hx hts hown hK hP he h1 h2 hv hd kk
  obtain rfl : ci = 16 := by omega
  exact va_get hx rfl hts in_X16 hown hK hP q0 he (C := RX16) (T := TX16) (N := 53) rfl 43 (by decide) (hts _ q2154) (fun x h => h) hv hd kk
theorem gf_16539 : gfOK RX15 539 17 17 34 := by
  intro p l e R s m args below meth c H locs cells slots Q pc ls rest D tys ws a q0 ci fs v hx hts hown hK hP he h1 h2 hv hd kk
  obtain rfl : ci = 16 := by omega
  exact va_get hx rfl hts in_X16 hown hK hP q0 he (C := RX16) (T := TX16) (N := 53) rfl 34 (by decide) (hts _ q2136) (fun x h => h) hv hd kk
theorem gf_16545 : gfOK RX15 545 16 16 36 := by
  intro p l e R s m args below meth c H locs cells slots Q pc ls rest D tys ws a q0 ci fs v hx hts hown hK hP he h1 h2 hv hd kk
  obtain rfl : ci = 15 := by omega
  exact va_get hx rfl hts in_X15 hown hK hP q0 he (C := RX15) (T := TX15) (N := 64) rfl 36 (by decide) (hts _ q2316) (fun x h => h) hv hd kk
theorem gf_16576 : gfOK RX15 576 17 17 46 := by
  intro p l e R s m args below meth c H locs cells slots Q pc ls rest D tys ws a q0 ci fs v hx hts hown hK hP he h1 h2 hv hd kk
  obtain rfl : ci = 16 := by omega
  exact va_get hx rfl hts in_X16 hown hK hP q0 he (C := RX16) (T := TX16) (N := 53) rfl 46 (by decide) (hts _ q2160) (fun x h => h) hv hd kk
theorem gf_16579 : gfOK RX15 579 17 17 47 := by
  intro p l e R s m args below meth c H locs cells slots Q pc ls rest D tys ws a q0 ci fs v hx hts hown hK hP he h1 h2 hv hd kk
  obtain rfl : ci = 16 := by omega
  exact va_get hx rfl hts in_X16 hown hK hP q0 he (C := RX16) (T := TX16) (N := 53) rfl 47 (by decide) (hts _ q2162) (fun x h => h) hv hd kk
theorem gf_16582 : gfOK RX15 582 17 17 48 := by
  intro p l e R s m args below meth c H locs cells slots Q pc ls rest D tys ws a q0 ci fs v hx hts hown hK hP he h1 h2 hv hd kk
  obtain rfl : ci = 16 := by omega
  exact va_get hx rfl hts in_X16 hown hK hP q0 he (C := RX16) (T := TX16) (N := 53) rfl 48 (by decide) (hts _ q2164) (fun x h => h) hv hd kk
theorem gf_16585 : gfOK RX15 585 16 16 37 := by
  intro p l e R s m args below meth c H locs cells slots Q pc ls rest D tys ws a q0 ci fs v hx hts hown hK hP he h1 h2 hv hd kk
  obtain rfl : ci = 15 := by omega
  exact va_get hx rfl hts in_X15 hown hK hP q0 he (C := RX15) (T := TX15) (N := 64) rfl 37 (by decide) (hts _ q2317) (fun x h => h) hv hd kk
theorem gf_16588 : gfOK RX15 588 17 17 49 := by
  intro p l e R s m args below meth c H locs cells slots Q pc ls rest D tys ws a q0 ci fs v hx hts hown hK hP he h1 h2 hv hd kk
  obtain rfl : ci = 16 := by omega
  exact va_get hx rfl hts in_X16 hown hK hP q0 he (C := RX16) (T := TX16) (N := 53) rfl 49 (by decide) (hts _ q2166) (fun x h => h) hv hd kk
theorem gf_16601 : gfOK RX15 601 17 17 44 := by
  intro p l e R s m args below meth c H locs cells slots Q pc ls rest D tys ws a q0 ci fs v hx hts hown hK hP he h1 h2 hv hd kk
  obtain rfl : ci = 16 := by omega
  exact va_get hx rfl hts in_X16 hown hK hP q0 he (C := RX16) (T := TX16) (N := 53) rfl 44 (by decide) (hts _ q2156) (fun x h => h) hv hd kk
theorem gf_16604 : gfOK RX15 604 17 17 45 := by
  intro p l e R s m args below meth c H locs cells slots Q pc ls rest D tys ws a q0 ci fs v hx hts hown hK hP he h1 h2 hv hd kk
  obtain rfl : ci = 16 := by omega
  exact va_get hx rfl hts in_X16 hown hK hP q0 he (C := RX16) (T := TX16) (N := 53) rfl 45 (by decide) (hts _ q2158) (fun x h => h) hv hd kk
theorem gf_16607 : gfOK RX15 607 17 17 50 := by
  intro p l e R s m args below meth c H locs cells slots Q pc ls rest D tys ws a q0 ci fs v hx hts hown hK hP he h1 h2 hv hd kk
  obtain rfl : ci = 16 := by omega
  exact va_get hx rfl hts in_X16 hown hK hP q0 he (C := RX16) (T := TX16) (N := 53) rfl 50 (by decide) (hts _ q2168) (fun x h => h) hv hd kk
theorem gf_16610 : gfOK RX15 610 17 17 51 := by
  intro p l e R s m args below meth c H locs cells slots Q pc ls rest D tys ws a q0 ci fs v hx hts hown hK hP he h1 h2 hv hd kk
  obtain rfl : ci = 16 := by omega
  exact va_get hx rfl hts in_X16 hown hK hP q0 he (C := RX16) (T := TX16) (N := 53) rfl 51 (by decide) (hts _ q2170) (fun x h => h) hv hd kk
theorem gf_16613 : gfOK RX15 613 17 17 52 := by
  intro p l e R s m args below meth c H locs cells slots Q pc ls rest D tys ws a q0 ci fs v hx hts hown hK hP he h1 h2 hv hd kk
  obtain rfl : ci = 16 := by omega
  exact va_get hx rfl hts in_X16 hown hK hP q0 he (C := RX16) (T := TX16) (N := 53) rfl 52 (by decide) (hts _ q2172) (fun x h => h) hv hd kk
theorem gf_16625 : gfOK RX15 625 16 16 39 := by
  intro p l e R s m args below meth c H locs cells slots Q pc ls rest D tys ws a q0 ci fs v hx hts hown hK hP he h1 h2 hv hd kk
  obtain rfl : ci = 15 := by omega
  exact va_get hx rfl hts in_X15 hown hK hP q0 he (C := RX15) (T := TX15) (N := 64) rfl 39 (by decide) (hts _ q2319) (fun x h => h) hv hd kk
theorem gf_16628 : gfOK RX15 628 16 16 40 := by
  intro p l e R s m args below meth c H locs cells slots Q pc ls rest D tys ws a q0 ci fs v hx hts hown hK hP he h1 h2 hv hd kk
  obtain rfl : ci = 15 := by omega
  exact va_get hx rfl hts in_X15 hown hK hP q0 he (C := RX15) (T := TX15) (N := 64) rfl 40 (by decide) (hts _ q2320) (fun x h => h) hv hd kk
theorem gf_16632 : gfOK RX15 632 16 16 38 := by
  intro p l e R s m args below meth c H locs cells slots Q pc ls rest D tys ws a q0 ci fs v hx hts hown hK hP he h1 h2 hv hd kk
  obtain rfl : ci = 15 := by omega
  exact va_get hx rfl hts in_X15 hown hK hP q0 he (C := RX15) (T := TX15) (N := 64) rfl 38 (by decide) (hts _ q2318) (fun x h => h) hv hd kk
theorem gf_16794 : gfOK RX15 794 16 16 2 := by
  intro p l e R s m args below meth c H locs cells slots Q pc ls rest D tys ws a q0 ci fs v hx hts hown hK hP he h1 h2 hv hd kk
  obtain rfl : ci = 15 := by omega
  exact va_get hx rfl hts in_X15 hown hK hP q0 he (C := RX15) (T := TX15) (N := 64) rfl 2 (by decide) (hts _ q2282) (fun x h => h) hv hd kk
theorem gf_16805 : gfOK RX15 805 16 16 55 := by
  intro p l e R s m args below meth c H locs cells slots Q pc ls rest D tys ws a q0 ci fs v hx hts hown hK hP he h1 h2 hv hd kk
  obtain rfl : ci = 15 := by omega
  exact va_get hx rfl hts in_X15 hown hK hP q0 he (C := RX15) (T := TX15) (N := 64) rfl 55 (by decide) (hts _ q2335) (fun x h => h) hv hd kk
theorem gf_16808 : gfOK RX15 808 16 16 53 := by
  intro p l e R s m args below meth c H locs cells slots Q pc ls rest D tys ws a q0 ci fs v hx hts hown hK hP he h1 h2 hv hd kk
  obtain rfl : ci = 15 := by omega
  exact va_get hx rfl hts in_X15 hown hK hP q0 he (C := RX15) (T := TX15) (N := 64) rfl 53 (by decide) (hts _ q2333) (fun x h => h) hv hd kk
theorem gf_16811 : gfOK RX15 811 16 16 54 := by
  intro p l e R s m args below meth c H locs cells slots Q pc ls rest D tys ws a q0 ci fs v hx hts hown hK hP he h1 h2 hv hd kk
  obtain rfl : ci = 15 := by omega
  exact va_get hx rfl hts in_X15 hown hK hP q0 he (C := RX15) (T := TX15) (N := 64) rfl 54 (by decide) (hts _ q2334) (fun x h => h) hv hd kk
theorem gf_16814 : gfOK RX15 814 16 16 56 := by
  intro p l e R s m args below meth c H locs cells slots Q pc ls rest D tys ws a q0 ci fs v hx hts hown hK hP he h1 h2 hv hd kk
  obtain rfl : ci = 15 := by omega
  exact va_get hx rfl hts in_X15 hown hK hP q0 he (C := RX15) (T := TX15) (N := 64) rfl 56 (by decide) (hts _ q2336) (fun x h => h) hv hd kk
theorem gf_16817 : gfOK RX15 817 16 16 57 := by
  intro p l e R s m args below meth c H locs cells slots Q pc ls rest D tys ws a q0 ci fs v hx hts hown hK hP he h1 h2 hv hd kk
  obtain rfl : ci = 15 := by omega
  exact va_get hx rfl hts in_X15 hown hK hP q0 he (C := RX15) (T := TX15) (N := 64) rfl 57 (by decide) (hts _ q2337) (fun x h => h) hv hd kk
theorem gf_16820 : gfOK RX15 820 16 16 58 := by
  intro p l e R s m args below meth c H locs cells slots Q pc ls rest D tys ws a q0 ci fs v hx hts hown hK hP he h1 h2 hv hd kk
  obtain rfl : ci = 15 := by omega
  exact va_get hx rfl hts in_X15 hown hK hP q0 he (C := RX15) (T := TX15) (N := 64) rfl 58 (by decide) (hts _ q2338) (fun x h => h) hv hd kk
theorem gf_16823 : gfOK RX15 823 16 16 52 := by
  intro p l e R s m args below meth c H locs cells slots Q pc ls rest D tys ws a q0 ci fs v hx hts hown hK hP he h1 h2 hv hd kk
  obtain rfl : ci = 15 := by omega
  exact va_get hx rfl hts in_X15 hown hK hP q0 he (C := RX15) (T := TX15) (N := 64) rfl 52 (by decide) (hts _ q2332) (fun x h => h) hv hd kk
theorem gf_16826 : gfOK RX15 826 16 16 61 := by
  intro p l e R s m args below meth c H locs cells slots Q pc ls rest D tys ws a q0 ci fs v hx hts hown hK hP he h1 h2 hv hd kk
  obtain rfl : ci = 15 := by omega
  exact va_get hx rfl hts in_X15 hown hK hP q0 he (C := RX15) (T := TX15) (N := 64) rfl 61 (by decide) (hts _ q2341) (fun x h => h) hv hd kk
theorem gf_16835 : gfOK RX15 835 16 16 63 := by
  intro p l e R s m args below meth c H locs cells slots Q pc ls rest D tys ws a q0 ci fs v hx hts hown hK hP he h1 h2 hv hd kk
  obtain rfl : ci = 15 := by omega
  exact va_get hx rfl hts in_X15 hown hK hP q0 he (C := RX15) (T := TX15) (N := 64) rfl 63 (by decide) (hts _ q2343) (fun x h => h) hv hd kk
theorem gf_16841 : gfOK RX15 841 16 16 62 := by
  intro p l e R s m args below meth c H locs cells slots Q pc ls rest D tys ws a q0 ci fs v hx hts hown hK hP he h1 h2 hv hd kk
  obtain rfl : ci = 15 := by omega
  exact va_get hx rfl hts in_X15 hown hK hP q0 he (C := RX15) (T := TX15) (N := 64) rfl 62 (by decide) (hts _ q2342) (fun x h => h) hv hd kk
theorem pf_1010 : pfOK RX0 10 1 1 0 2 1 := by
  intro p l e R s m args below meth c H locs cells slots Q pc ls rest D tys ws a q0 ci fs v A H0 hx hts hown hK hP hD hS he h1 h2 hin hv hl hd kk
  obtain ⟨x, rfl⟩ := hv
  obtain rfl : ci = 0 := by omega
  exact va_putF hx rfl hts in_X0 tyX0 tyX0_ok nmX0 hown hK hP hD hS q0 he (C := RX0) (T := TX0) (N := 19) rfl 0 (by decide) (hts _ q1002) (fun x h => h) rfl (hin rfl) rfl (tyX0_ok 0 (by decide)) rfl rfl hl hd kk
theorem pf_1021 : pfOK RX0 21 1 1 1 2 1 := by
  intro p l e R s m args below meth c H locs cells slots Q pc ls rest D tys ws a q0 ci fs v A H0 hx hts hown hK hP hD hS he h1 h2 hin hv hl hd kk
  obtain ⟨x, rfl⟩ := hv
  obtain rfl : ci = 0 := by omega
  exact va_putF hx rfl hts in_X0 tyX0 tyX0_ok nmX0 hown hK hP hD hS q0 he (C := RX0) (T := TX0) (N := 19) rfl 1 (by decide) (hts _ q1003) (fun x h => h) rfl (hin rfl) rfl (tyX0_ok 1 (by decide)) rfl rfl hl hd kk
theorem pf_1030 : pfOK RX0 30 1 1 2 2 1 := by
  intro p l e R s m args below meth c H locs cells slots Q pc ls rest D tys ws a q0 ci fs v A H0 hx hts hown hK hP hD hS he h1 h2 hin hv hl hd kk
  obtain ⟨x, rfl⟩ := hv
  obtain rfl : ci = 0 := by omega
  exact va_putF hx rfl hts in_X0 tyX0 tyX0_ok nmX0 hown hK hP hD hS q0 he (C := RX0) (T := TX0) (N := 19) rfl 2 (by decide) (hts _ q1004) (fun x h => h) rfl (hin rfl) rfl (tyX0_ok 2 (by decide)) rfl rfl hl hd kk
theorem pf_1039 : pfOK RX0 39 1 1 3 2 1 := by
  intro p l e R s m args below meth c H locs cells slots Q pc ls rest D tys ws a q0 ci fs v A H0 hx hts hown hK hP hD hS he h1 h2 hin hv hl hd kk
  obtain ⟨x, rfl⟩ := hv
  obtain rfl : ci = 0 := by omega
  exact va_putF hx rfl hts in_X0 tyX0 tyX0_ok nmX0 hown hK hP hD hS q0 he (C := RX0) (T := TX0) (N := 19) rfl 3 (by decide) (hts _ q1005) (fun x h => h) rfl (hin rfl) rfl (tyX0_ok 3 (by decide)) rfl rfl hl hd kk
theorem pf_1046 : pfOK RX0 46 1 1 4 2 1 := by
  intro p l e R s m args below meth c H locs cells slots Q pc ls rest D tys ws a q0 ci fs v A H0 hx hts hown hK hP hD hS he h1 h2 hin hv hl hd kk
  obtain ⟨x, rfl⟩ := hv
  obtain rfl : ci = 0 := by omega
  exact va_putF hx rfl hts in_X0 tyX0 tyX0_ok nmX0 hown hK hP hD hS q0 he (C := RX0) (T := TX0) (N := 19) rfl 4 (by decide) (hts _ q1006) (fun x h => h) rfl (hin rfl) rfl (tyX0_ok 4 (by decide)) rfl rfl hl hd kk
theorem pf_1053 : pfOK RX0 53 1 1 5 2 1 := by
  intro p l e R s m args below meth c H locs cells slots Q pc ls rest D tys ws a q0 ci fs v A H0 hx hts hown hK hP hD hS he h1 h2 hin hv hl hd kk
  obtain ⟨x, rfl⟩ := hv
  obtain rfl : ci = 0 := by omega
  exact va_putF hx rfl hts in_X0 tyX0 tyX0_ok nmX0 hown hK hP hD hS q0 he (C := RX0) (T := TX0) (N := 19) rfl 5 (by decide) (hts _ q1007) (fun x h => h) rfl (hin rfl) rfl (tyX0_ok 5 (by decide)) rfl rfl hl hd kk
theorem pf_1060 : pfOK RX0 60 1 1 6 2 1 := by
  intro p l e R s m args below meth c H locs cells slots Q pc ls rest D tys ws a q0 ci fs v A H0 hx hts hown hK hP hD hS he h1 h2 hin hv hl hd kk
  obtain ⟨x, rfl⟩ := hv
  obtain rfl : ci = 0 := by omega
  exact va_putF hx rfl hts in_X0 tyX0 tyX0_ok nmX0 hown hK hP hD hS q0 he (C := RX0) (T := TX0) (N := 19) rfl 6 (by decide) (hts _ q1008) (fun x h => h) rfl (hin rfl) rfl (tyX0_ok 6 (by decide)) rfl rfl hl hd kk
theorem pf_1067 : pfOK RX0 67 1 1 7 2 0 := by
  intro p l e R s m args below meth c H locs cells slots Q pc ls rest D tys ws a q0 ci fs v A H0 hx hts hown hK hP hD hS he h1 h2 hin hv hl hd kk
  obtain ⟨x, rfl⟩ := hv
  obtain rfl : ci = 0 := by omega
  exact va_put hx rfl hts in_X0 tyX0 tyX0_ok nmX0 hown hK hP hD hS q0 he (C := RX0) (T := TX0) (N := 19) rfl 7 (by decide) (hts _ q1009) (fun x h => h) rfl (tyX0_ok 7 (by decide)) rfl rfl hl hd kk
theorem pf_1071 : pfOK RX0 71 1 1 8 2 0 := by
  intro p l e R s m args below meth c H locs cells slots Q pc ls rest D tys ws a q0 ci fs v A H0 hx hts hown hK hP hD hS he h1 h2 hin hv hl hd kk
  obtain ⟨x, rfl⟩ := hv
  obtain rfl : ci = 0 := by omega
  exact va_put hx rfl hts in_X0 tyX0 tyX0_ok nmX0 hown hK hP hD hS q0 he (C := RX0) (T := TX0) (N := 19) rfl 8 (by decide) (hts _ q1010) (fun x h => h) rfl (tyX0_ok 8 (by decide)) rfl rfl hl hd kk
theorem pf_1074 : pfOK RX0 74 1 1 10 2 1 := by
  intro p l e R s m args below meth c H locs cells slots Q pc ls rest D tys ws a q0 ci fs v A H0 hx hts hown hK hP hD hS he h1 h2 hin hv hl hd kk
  obtain ⟨x, rfl⟩ := hv
  obtain rfl : ci = 0 := by omega
  exact va_putF hx rfl hts in_X0 tyX0 tyX0_ok nmX0 hown hK hP hD hS q0 he (C := RX0) (T := TX0) (N := 19) rfl 10 (by decide) (hts _ q1012) (fun x h => h) rfl (hin rfl) rfl (tyX0_ok 10 (by decide)) rfl rfl hl hd kk
theorem pf_1078 : pfOK RX0 78 1 1 13 2 1 := by
  intro p l e R s m args below meth c H locs cells slots Q pc ls rest D tys ws a q0 ci fs v A H0 hx hts hown hK hP hD hS he h1 h2 hin hv hl hd kk
  obtain ⟨x, rfl⟩ := hv
  obtain rfl : ci = 0 := by omega
  exact va_putF hx rfl hts in_X0 tyX0 tyX0_ok nmX0 hown hK hP hD hS q0 he (C := RX0) (T := TX0) (N := 19) rfl 13 (by decide) (hts _ q1015) (fun x h => h) rfl (hin rfl) rfl (tyX0_ok 13 (by decide)) rfl rfl hl hd kk
theorem pf_1081 : pfOK RX0 81 1 1 15 2 1 := by
  intro p l e R s m args below meth c H locs cells slots Q pc ls rest D tys ws a q0 ci fs v A H0 hx hts hown hK hP hD hS he h1 h2 hin hv hl hd kk
  obtain ⟨x, rfl⟩ := hv
  obtain rfl : ci = 0 := by omega
  exact va_putF hx rfl hts in_X0 tyX0 tyX0_ok nmX0 hown hK hP hD hS q0 he (C := RX0) (T := TX0) (N := 19) rfl 15 (by decide) (hts _ q1017) (fun x h => h) rfl (hin rfl) rfl (tyX0_ok 15 (by decide)) rfl rfl hl hd kk
theorem pf_1088 : pfOK RX0 88 1 1 11 0 0 := by
  intro p l e R s m args below meth c H locs cells slots Q pc ls rest D tys ws a q0 ci fs v A H0 hx hts hown hK hP hD hS he h1 h2 hin hv hl hd kk
  obtain ⟨x, rfl⟩ := hv
  obtain rfl : ci = 0 := by omega
  exact va_put hx rfl hts in_X0 tyX0 tyX0_ok nmX0 hown hK hP hD hS q0 he (C := RX0) (T := TX0) (N := 19) rfl 11 (by decide) (hts _ q1013) (fun x h => h) rfl (tyX0_ok 11 (by decide)) rfl rfl hl hd kk
theorem pf_1092 : pfOK RX0 92 1 1 12 0 0 := by
  intro p l e R s m args below meth c H locs cells slots Q pc ls rest D tys ws a q0 ci fs v A H0 hx hts hown hK hP hD hS he h1 h2 hin hv hl hd kk
  obtain ⟨x, rfl⟩ := hv
  obtain rfl : ci = 0 := by omega
  exact va_put hx rfl hts in_X0 tyX0 tyX0_ok nmX0 hown hK hP hD hS q0 he (C := RX0) (T := TX0) (N := 19) rfl 12 (by decide) (hts _ q1014) (fun x h => h) rfl (tyX0_ok 12 (by decide)) rfl rfl hl hd kk
theorem pf_1100 : pfOK RX0 100 1 1 14 0 0 := by
  intro p l e R s m args below meth c H locs cells slots Q pc ls rest D tys ws a q0 ci fs v A H0 hx hts hown hK hP hD hS he h1 h2 hin hv hl hd kk
  obtain ⟨x, rfl⟩ := hv
  obtain rfl : ci = 0 := by omega
  exact va_put hx rfl hts in_X0 tyX0 tyX0_ok nmX0 hown hK hP hD hS q0 he (C := RX0) (T := TX0) (N := 19) rfl 14 (by decide) (hts _ q1016) (fun x h => h) rfl (tyX0_ok 14 (by decide)) rfl rfl hl hd kk
theorem pf_1122 : pfOK RX0 122 1 1 9 3 0 := by
  intro p l e R s m args below meth c H locs cells slots Q pc ls rest D tys ws a q0 ci fs v A H0 hx hts hown hK hP hD hS he h1 h2 hin hv hl hd kk
  rcases hv with rfl | rfl
  · obtain rfl : ci = 0 := by omega
    exact va_put hx rfl hts in_X0 tyX0 tyX0_ok nmX0 hown hK hP hD hS q0 he (C := RX0) (T := TX0) (N := 19) rfl 9 (by decide) (hts _ q1011) (fun x h => h) rfl (tyX0_ok 9 (by decide)) rfl rfl hl hd kk
  · obtain rfl : ci = 0 := by omega
    exact va_put hx rfl hts in_X0 tyX0 tyX0_ok nmX0 hown hK hP hD hS q0 he (C := RX0) (T := TX0) (N := 19) rfl 9 (by decide) (hts _ q1011) (fun x h => h) rfl (tyX0_ok 9 (by decide)) rfl rfl hl hd kk
theorem pf_1222 : pfOK RX0 222 1 1 16 0 0 := by
  intro p l e R s m args below meth c H locs cells slots Q pc ls rest D tys ws a q0 ci fs v A H0 hx hts hown hK hP hD hS he h1 h2 hin hv hl hd kk
  obtain ⟨x, rfl⟩ := hv
  obtain rfl : ci = 0 := by omega
  exact va_put hx rfl hts in_X0 tyX0 tyX0_ok nmX0 hown hK hP hD hS q0 he (C := RX0) (T := TX0) (N := 19) rfl 16 (by decide) (hts _ q1018) (fun x h => h) rfl (tyX0_ok 16 (by decide)) rfl rfl hl hd kk
theorem pf_1229 : pfOK RX0 229 1 1 17 0 0 := by
  intro p l e R s m args below meth c H locs cells slots Q pc ls rest D tys ws a q0 ci fs v A H0 hx hts hown hK hP hD hS he h1 h2 hin hv hl hd kk
  obtain ⟨x, rfl⟩ := hv
  obtain rfl : ci = 0 := by omega
  exact va_put hx rfl hts in_X0 tyX0 tyX0_ok nmX0 hown hK hP hD hS q0 he (C := RX0) (T := TX0) (N := 19) rfl 17 (by decide) (hts _ q1019) (fun x h => h) rfl (tyX0_ok 17 (by decide)) rfl rfl hl hd kk
theorem pf_1232 : pfOK RX0 232 1 1 18 3 0 := by
  intro p l e R s m args below meth c H locs cells slots Q pc ls rest D tys ws a q0 ci fs v A H0 hx hts hown hK hP hD hS he h1 h2 hin hv hl hd kk
  rcases hv with rfl | rfl
  · obtain rfl : ci = 0 := by omega
    exact va_put hx rfl hts in_X0 tyX0 tyX0_ok nmX0 hown hK hP hD hS q0 he (C := RX0) (T := TX0) (N := 19) rfl 18 (by decide) (hts _ q1020) (fun x h => h) rfl (tyX0_ok 18 (by decide)) rfl rfl hl hd kk
  · obtain rfl : ci = 0 := by omega
    exact va_put hx rfl hts in_X0 tyX0 tyX0_ok nmX0 hown hK hP hD hS q0 he (C := RX0) (T := TX0) (N := 19) rfl 18 (by decide) (hts _ q1020) (fun x h => h) rfl (tyX0_ok 18 (by decide)) rfl rfl hl hd kk
theorem pf_2010 : pfOK RX1 10 2 2 0 2 1 := by
  intro p l e R s m args below meth c H locs cells slots Q pc ls rest D tys ws a q0 ci fs v A H0 hx hts hown hK hP hD hS he h1 h2 hin hv hl hd kk
  obtain ⟨x, rfl⟩ := hv
  obtain rfl : ci = 1 := by omega
  exact va_putF hx rfl hts in_X1 tyX1 tyX1_ok nmX1 hown hK hP hD hS q0 he (C := RX1) (T := TX1) (N := 3) rfl 0 (by decide) (hts _ q350) (fun x h => h) rfl (hin rfl) rfl (tyX1_ok 0 (by decide)) rfl rfl hl hd kk
theorem pf_2016 : pfOK RX1 16 2 2 1 0 0 := by
  intro p l e R s m args below meth c H locs cells slots Q pc ls rest D tys ws a q0 ci fs v A H0 hx hts hown hK hP hD hS he h1 h2 hin hv hl hd kk
  obtain ⟨x, rfl⟩ := hv
  obtain rfl : ci = 1 := by omega
  exact va_put hx rfl hts in_X1 tyX1 tyX1_ok nmX1 hown hK hP hD hS q0 he (C := RX1) (T := TX1) (N := 3) rfl 1 (by decide) (hts _ q351) (fun x h => h) rfl (tyX1_ok 1 (by decide)) rfl rfl hl hd kk
theorem pf_2020 : pfOK RX1 20 2 2 2 0 0 := by
  intro p l e R s m args below meth c H locs cells slots Q pc ls rest D tys ws a q0 ci fs v A H0 hx hts hown hK hP hD hS he h1 h2 hin hv hl hd kk
  obtain ⟨x, rfl⟩ := hv
  obtain rfl : ci = 1 := by omega
  exact va_put hx rfl hts in_X1 tyX1 tyX1_ok nmX1 hown hK hP hD hS q0 he (C := RX1) (T := TX1) (N := 3) rfl 2 (by decide) (hts _ q353) (fun x h => h) rfl (tyX1_ok 2 (by decide)) rfl rfl hl hd kk
theorem pf_3012 : pfOK RX2 12 3 3 2 2 1 := by
  intro p l e R s m args below meth c H locs cells slots Q pc ls rest D tys ws a q0 ci fs v A H0 hx hts hown hK hP hD hS he h1 h2 hin hv hl hd kk
  obtain ⟨x, rfl⟩ := hv
  obtain rfl : ci = 2 := by omega
  exact va_putF hx rfl hts in_X2 tyX2 tyX2_ok nmX2 hown hK hP hD hS q0 he (C := RX2) (T := TX2) (N := 4) rfl 2 (by decide) (hts _ q389) (fun x h => h) rfl (hin rfl) rfl (tyX2_ok 2 (by decide)) rfl rfl hl hd kk
theorem pf_3018 : pfOK RX2 18 3 3 3 2 1 := by
  intro p l e R s m args below meth c H locs cells slots Q pc ls rest D tys ws a q0 ci fs v A H0 hx hts hown hK hP hD hS he h1 h2 hin hv hl hd kk
  obtain ⟨x, rfl⟩ := hv
  obtain rfl : ci = 2 := by omega
  exact va_putF hx rfl hts in_X2 tyX2 tyX2_ok nmX2 hown hK hP hD hS q0 he (C := RX2) (T := TX2) (N := 4) rfl 3 (by decide) (hts _ q391) (fun x h => h) rfl (hin rfl) rfl (tyX2_ok 3 (by decide)) rfl rfl hl hd kk
theorem pf_3021 : pfOK RX2 21 3 3 0 2 1 := by
  intro p l e R s m args below meth c H locs cells slots Q pc ls rest D tys ws a q0 ci fs v A H0 hx hts hown hK hP hD hS he h1 h2 hin hv hl hd kk
  obtain ⟨x, rfl⟩ := hv
  obtain rfl : ci = 2 := by omega
  exact va_putF hx rfl hts in_X2 tyX2 tyX2_ok nmX2 hown hK hP hD hS q0 he (C := RX2) (T := TX2) (N := 4) rfl 0 (by decide) (hts _ q387) (fun x h => h) rfl (hin rfl) rfl (tyX2_ok 0 (by decide)) rfl rfl hl hd kk
theorem pf_3029 : pfOK RX2 29 3 3 1 2 0 := by
  intro p l e R s m args below meth c H locs cells slots Q pc ls rest D tys ws a q0 ci fs v A H0 hx hts hown hK hP hD hS he h1 h2 hin hv hl hd kk
  obtain ⟨x, rfl⟩ := hv
  obtain rfl : ci = 2 := by omega
  exact va_put hx rfl hts in_X2 tyX2 tyX2_ok nmX2 hown hK hP hD hS q0 he (C := RX2) (T := TX2) (N := 4) rfl 1 (by decide) (hts _ q388) (fun x h => h) rfl (tyX2_ok 1 (by decide)) rfl rfl hl hd kk
theorem pf_4007 : pfOK RX3 7 4 4 0 2 0 := by
  intro p l e R s m args below meth c H locs cells slots Q pc ls rest D tys ws a q0 ci fs v A H0 hx hts hown hK hP hD hS he h1 h2 hin hv hl hd kk
  obtain ⟨x, rfl⟩ := hv
  obtain rfl : ci = 3 := by omega
  exact va_put hx rfl hts in_X3 tyX3 tyX3_ok nmX3 hown hK hP hD hS q0 he (C := RX3) (T := TX3) (N := 2) rfl 0 (by decide) (hts _ q374) (fun x h => h) rfl (tyX3_ok 0 (by decide)) rfl rfl hl hd kk
theorem pf_4013 : pfOK RX3 13 4 4 1 0 0 := by
  intro p l e R s m args below meth c H locs cells slots Q pc ls rest D tys ws a q0 ci fs v A H0 hx hts hown hK hP hD hS he h1 h2 hin hv hl hd kk
  obtain ⟨x, rfl⟩ := hv
  obtain rfl : ci = 3 := by omega
  exact va_put hx rfl hts in_X3 tyX3 tyX3_ok nmX3 hown hK hP hD hS q0 he (C := RX3) (T := TX3) (N := 2) rfl 1 (by decide) (hts _ q377) (fun x h => h) rfl (tyX3_ok 1 (by decide)) rfl rfl hl hd kk
theorem pf_5012 : pfOK RX4 12 5 5 3 2 1 := by
  intro p l e R s m args below meth c H locs cells slots Q pc ls rest D tys ws a q0 ci fs v A H0 hx hts hown hK hP hD hS he h1 h2 hin hv hl hd kk
  obtain ⟨x, rfl⟩ := hv
  obtain rfl : ci = 4 := by omega
  exact va_putF hx rfl hts in_X4 tyX4 tyX4_ok nmX4 hown hK hP hD hS q0 he (C := RX4) (T := TX4) (N := 13) rfl 3 (by decide) (hts _ q413) (fun x h => h) rfl (hin rfl) rfl (tyX4_ok 3 (by decide)) rfl rfl hl hd kk
theorem pf_5018 : pfOK RX4 18 5 5 4 2 1 := by
  intro p l e R s m args below meth c H locs cells slots Q pc ls rest D tys ws a q0 ci fs v A H0 hx hts hown hK hP hD hS he h1 h2 hin hv hl hd kk
  obtain ⟨x, rfl⟩ := hv
  obtain rfl : ci = 4 := by omega
  exact va_putF hx rfl hts in_X4 tyX4 tyX4_ok nmX4 hown hK hP hD hS q0 he (C := RX4) (T := TX4) (N := 13) rfl 4 (by decide) (hts _ q415) (fun x h => h) rfl (hin rfl) rfl (tyX4_ok 4 (by decide)) rfl rfl hl hd kk
theorem pf_5021 : pfOK RX4 21 5 5 5 2 1 := by
  intro p l e R s m args below meth c H locs cells slots Q pc ls rest D tys ws a q0 ci fs v A H0 hx hts hown hK hP hD hS he h1 h2 hin hv hl hd kk
  obtain ⟨x, rfl⟩ := hv
  obtain rfl : ci = 4 := by omega
  exact va_putF hx rfl hts in_X4 tyX4 tyX4_ok nmX4 hown hK hP hD hS q0 he (C := RX4) (T := TX4) (N := 13) rfl 5 (by decide) (hts _ q417) (fun x h => h) rfl (hin rfl) rfl (tyX4_ok 5 (by decide)) rfl rfl hl hd kk
theorem pf_5024 : pfOK RX4 24 5 5 6 2 1 := by
  intro p l e R s m args below meth c H locs cells slots Q pc ls rest D tys ws a q0 ci fs v A H0 hx hts hown hK hP hD hS he h1 h2 hin hv hl hd kk
  obtain ⟨x, rfl⟩ := hv
  obtain rfl : ci = 4 := by omega
  exact va_putF hx rfl hts in_X4 tyX4 tyX4_ok nmX4 hown hK hP hD hS q0 he (C := RX4) (T := TX4) (N := 13) rfl 6 (by decide) (hts _ q419) (fun x h => h) rfl (hin rfl) rfl (tyX4_ok 6 (by decide)) rfl rfl hl hd kk
theorem pf_5027 : pfOK RX4 27 5 5 7 2 1 := by
  intro p l e R s m args below meth c H locs cells slots Q pc ls rest D tys ws a q0 ci fs v A H0 hx hts hown hK hP hD hS he h1 h2 hin hv hl hd kk
  obtain ⟨x, rfl⟩ := hv
  obtain rfl : ci = 4 := by omega
  exact va_putF hx rfl hts in_X4 tyX4 tyX4_ok nmX4 hown hK hP hD hS q0 he (C := RX4) (T := TX4) (N := 13) rfl 7 (by decide) (hts _ q421) (fun x h => h) rfl (hin rfl) rfl (tyX4_ok 7 (by decide)) rfl rfl hl hd kk
theorem pf_5030 : pfOK RX4 30 5 5 8 2 1 := by
  intro p l e R s m args below meth c H locs cells slots Q pc ls rest D tys ws a q0 ci fs v A H0 hx hts hown hK hP hD hS he h1 h2 hin hv hl hd kk
  obtain ⟨x, rfl⟩ := hv
  obtain rfl : ci = 4 := by omega
  exact va_putF hx rfl hts in_X4 tyX4 tyX4_ok nmX4 hown hK hP hD hS q0 he (C := RX4) (T := TX4) (N := 13) rfl 8 (by decide) (hts _ q423) (fun x h => h) rfl (hin rfl) rfl (tyX4_ok 8 (by decide)) rfl rfl hl hd kk
theorem pf_5033 : pfOK RX4 33 5 5 9 2 1 := by
  intro p l e R s m args below meth c H locs cells slots Q pc ls rest D tys ws a q0 ci fs v A H0 hx hts hown hK hP hD hS he h1 h2 hin hv hl hd kk
  obtain ⟨x, rfl⟩ := hv
  obtain rfl : ci = 4 := by omega
  exact va_putF hx rfl hts in_X4 tyX4 tyX4_ok nmX4 hown hK hP hD hS q0 he (C := RX4) (T := TX4) (N := 13) rfl 9 (by decide) (hts _ q425) (fun x h => h) rfl (hin rfl) rfl (tyX4_ok 9 (by decide)) rfl rfl hl hd kk
theorem pf_5036 : pfOK RX4 36 5 5 10 2 1 := by
  intro p l e R s m args below meth c H locs cells slots Q pc ls rest D tys ws a q0 ci fs v A H0 hx hts hown hK hP hD hS he h1 h2 hin hv hl hd kk
  obtain ⟨x, rfl⟩ := hv
  obtain rfl : ci = 4 := by omega
  exact va_putF hx rfl hts in_X4 tyX4 tyX4_ok nmX4 hown hK hP hD hS q0 he (C := RX4) (T := TX4) (N := 13) rfl 10 (by decide) (hts _ q427) (fun x h => h) rfl (hin rfl) rfl (tyX4_ok 10 (by decide)) rfl rfl hl hd kk
theorem pf_5039 : pfOK RX4 39 5 5 11 2 1 := by
  intro p l e R s m args below meth c H locs cells slots Q pc ls rest D tys ws a q0 ci fs v A H0 hx hts hown hK hP hD hS he h1 h2 hin hv hl hd kk
  obtain ⟨x, rfl⟩ := hv
  obtain rfl : ci = 4 := by omega
  exact va_putF hx rfl hts in_X4 tyX4 tyX4_ok nmX4 hown hK hP hD hS q0 he (C := RX4) (T := TX4) (N := 13) rfl 11 (by decide) (hts _ q429) (fun x h => h) rfl (hin rfl) rfl (tyX4_ok 11 (by decide)) rfl rfl hl hd kk
theorem pf_5042 : pfOK RX4 42 5 5 12 2 1 := by
  intro p l e R s m args below meth c H locs cells slots Q pc ls rest D tys ws a q0 ci fs v A H0 hx hts hown hK hP hD hS he h1 h2 hin hv hl hd kk
  obtain ⟨x, rfl⟩ := hv
  obtain rfl : ci = 4 := by omega
  exact va_putF hx rfl hts in_X4 tyX4 tyX4_ok nmX4 hown hK hP hD hS q0 he (C := RX4) (T := TX4) (N := 13) rfl 12 (by decide) (hts _ q431) (fun x h => h) rfl (hin rfl) rfl (tyX4_ok 12 (by decide)) rfl rfl hl hd kk
theorem pf_5045 : pfOK RX4 45 5 5 0 2 1 := by
  intro p l e R s m args below meth c H locs cells slots Q pc ls rest D tys ws a q0 ci fs v A H0 hx hts hown hK hP hD hS he h1 h2 hin hv hl hd kk
  obtain ⟨x, rfl⟩ := hv
  obtain rfl : ci = 4 := by omega
  exact va_putF hx rfl hts in_X4 tyX4 tyX4_ok nmX4 hown hK hP hD hS q0 he (C := RX4) (T := TX4) (N := 13) rfl 0 (by decide) (hts _ q410) (fun x h => h) rfl (hin rfl) rfl (tyX4_ok 0 (by decide)) rfl rfl hl hd kk
theorem pf_5049 : pfOK RX4 49 5 5 1 2 1 := by
  intro p l e R s m args below meth c H locs cells slots Q pc ls rest D tys ws a q0 ci fs v A H0 hx hts hown hK hP hD hS he h1 h2 hin hv hl hd kk
  obtain ⟨x, rfl⟩ := hv
  obtain rfl : ci = 4 := by omega
  exact va_putF hx rfl hts in_X4 tyX4 tyX4_ok nmX4 hown hK hP hD hS q0 he (C := RX4) (T := TX4) (N := 13) rfl 1 (by decide) (hts _ q411) (fun x h => h) rfl (hin rfl) rfl (tyX4_ok 1 (by decide)) rfl rfl hl hd kk
theorem pf_5053 : pfOK RX4 53 5 5 2 0 0 := by
  intro p l e R s m args below meth c H locs cells slots Q pc ls rest D tys ws a q0 ci fs v A H0 hx hts hown hK hP hD hS he h1 h2 hin hv hl hd kk
  obtain ⟨x, rfl⟩ := hv
  obtain rfl : ci = 4 := by omega
  exact va_put hx rfl hts in_X4 tyX4 tyX4_ok nmX4 hown hK hP hD hS q0 he (C := RX4) (T := TX4) (N := 13) rfl 2 (by decide) (hts _ q412) (fun x h => h) rfl (tyX4_ok 2 (by decide)) rfl rfl hl hd kk
theorem pf_6009 : pfOK RX5 9 6 6 4 2 1 := by
  intro p l e R s m args below meth c H locs cells slots Q pc ls rest D tys ws a q0 ci fs v A H0 hx hts hown hK hP hD hS he h1 h2 hin hv hl hd kk
  obtain ⟨x, rfl⟩ := hv
  obtain rfl : ci = 5 := by omega
  exact va_putF hx rfl hts in_X5 tyX5 tyX5_ok nmX5 hown hK hP hD hS q0 he (C := RX5) (T := TX5) (N := 9) rfl 4 (by decide) (hts _ q472) (fun x h => h) rfl (hin rfl) rfl (tyX5_ok 4 (by decide)) rfl rfl hl hd kk
theorem pf_6015 : pfOK RX5 15 6 6 5 2 1 := by
  intro p l e R s m args below meth c H locs cells slots Q pc ls rest D tys ws a q0 ci fs v A H0 hx hts hown hK hP hD hS he h1 h2 hin hv hl hd kk
  obtain ⟨x, rfl⟩ := hv
  obtain rfl : ci = 5 := by omega
  exact va_putF hx rfl hts in_X5 tyX5 tyX5_ok nmX5 hown hK hP hD hS q0 he (C := RX5) (T := TX5) (N := 9) rfl 5 (by decide) (hts _ q473) (fun x h => h) rfl (hin rfl) rfl (tyX5_ok 5 (by decide)) rfl rfl hl hd kk
theorem pf_6018 : pfOK RX5 18 6 6 6 2 1 := by
  intro p l e R s m args below meth c H locs cells slots Q pc ls rest D tys ws a q0 ci fs v A H0 hx hts hown hK hP hD hS he h1 h2 hin hv hl hd kk
  obtain ⟨x, rfl⟩ := hv
  obtain rfl : ci = 5 := by omega
  exact va_putF hx rfl hts in_X5 tyX5 tyX5_ok nmX5 hown hK hP hD hS q0 he (C := RX5) (T := TX5) (N := 9) rfl 6 (by decide) (hts _ q474) (fun x h => h) rfl (hin rfl) rfl (tyX5_ok 6 (by decide)) rfl rfl hl hd kk
theorem pf_6024 : pfOK RX5 24 6 6 7 2 1 := by
  intro p l e R s m args below meth c H locs cells slots Q pc ls rest D tys ws a q0 ci fs v A H0 hx hts hown hK hP hD hS he h1 h2 hin hv hl hd kk
  obtain ⟨x, rfl⟩ := hv
  obtain rfl : ci = 5 := by omega
  exact va_putF hx rfl hts in_X5 tyX5 tyX5_ok nmX5 hown hK hP hD hS q0 he (C := RX5) (T := TX5) (N := 9) rfl 7 (by decide) (hts _ q475) (fun x h => h) rfl (hin rfl) rfl (tyX5_ok 7 (by decide)) rfl rfl hl hd kk
theorem pf_6028 : pfOK RX5 28 6 6 8 2 1 := by
  intro p l e R s m args below meth c H locs cells slots Q pc ls rest D tys ws a q0 ci fs v A H0 hx hts hown hK hP hD hS he h1 h2 hin hv hl hd kk
  obtain ⟨x, rfl⟩ := hv
  obtain rfl : ci = 5 := by omega
  exact va_putF hx rfl hts in_X5 tyX5 tyX5_ok nmX5 hown hK hP hD hS q0 he (C := RX5) (T := TX5) (N := 9) rfl 8 (by decide) (hts _ q476) (fun x h => h) rfl (hin rfl) rfl (tyX5_ok 8 (by decide)) rfl rfl hl hd kk
theorem pf_6031 : pfOK RX5 31 6 6 0 2 1 := by
  intro p l e R s m args below meth c H locs cells slots Q pc ls rest D tys ws a q0 ci fs v A H0 hx hts hown hK hP hD hS he h1 h2 hin hv hl hd kk
  obtain ⟨x, rfl⟩ := hv
  obtain rfl : ci = 5 := by omega
  exact va_putF hx rfl hts in_X5 tyX5 tyX5_ok nmX5 hown hK hP hD hS q0 he (C := RX5) (T := TX5) (N := 9) rfl 0 (by decide) (hts _ q468) (fun x h => h) rfl (hin rfl) rfl (tyX5_ok 0 (by decide)) rfl rfl hl hd kk
theorem pf_6035 : pfOK RX5 35 6 6 1 2 1 := by
  intro p l e R s m args below meth c H locs cells slots Q pc ls rest D tys ws a q0 ci fs v A H0 hx hts hown hK hP hD hS he h1 h2 hin hv hl hd kk
  obtain ⟨x, rfl⟩ := hv
  obtain rfl : ci = 5 := by omega
  exact va_putF hx rfl hts in_X5 tyX5 tyX5_ok nmX5 hown hK hP hD hS q0 he (C := RX5) (T := TX5) (N := 9) rfl 1 (by decide) (hts _ q469) (fun x h => h) rfl (hin rfl) rfl (tyX5_ok 1 (by decide)) rfl rfl hl hd kk
theorem pf_6039 : pfOK RX5 39 6 6 2 2 1 := by
  intro p l e R s m args below meth c H locs cells slots Q pc ls rest D tys ws a q0 ci fs v A H0 hx hts hown hK hP hD hS he h1 h2 hin hv hl hd kk
  obtain ⟨x, rfl⟩ := hv
  obtain rfl : ci = 5 := by omega
  exact va_putF hx rfl hts in_X5 tyX5 tyX5_ok nmX5 hown hK hP hD hS q0 he (C := RX5) (T := TX5) (N := 9) rfl 2 (by decide) (hts _ q470) (fun x h => h) rfl (hin rfl) rfl (tyX5_ok 2 (by decide)) rfl rfl hl hd kk
theorem pf_6049 : pfOK RX5 49 6 6 3 2 0 := by
  intro p l e R s m args below meth c H locs cells slots Q pc ls rest D tys ws a q0 ci fs v A H0 hx hts hown hK hP hD hS he h1 h2 hin hv hl hd kk
  obtain ⟨x, rfl⟩ := hv
  obtain rfl : ci = 5 := by omega
  exact va_put hx rfl hts in_X5 tyX5 tyX5_ok nmX5 hown hK hP hD hS q0 he (C := RX5) (T := TX5) (N := 9) rfl 3 (by decide) (hts _ q471) (fun x h => h) rfl (tyX5_ok 3 (by decide)) rfl rfl hl hd kk
theorem pf_6081 : pfOK RX5 81 15 15 7 0 0 := by
  intro p l e R s m args below meth c H locs cells slots Q pc ls rest D tys ws a q0 ci fs v A H0 hx hts hown hK hP hD hS he h1 h2 hin hv hl hd kk
  obtain ⟨x, rfl⟩ := hv
  obtain rfl : ci = 14 := by omega
  exact va_put hx rfl hts in_X14 tyX14 tyX14_ok nmX14 hown hK hP hD hS q0 he (C := RX14) (T := TX14) (N := 32) rfl 7 (by decide) (hts _ q834) (fun x h => h) rfl (tyX14_ok 7 (by decide)) rfl rfl hl hd kk
theorem pf_6096 : pfOK RX5 96 15 15 0 0 0 := by
  intro p l e R s m args below meth c H locs cells slots Q pc ls rest D tys ws a q0 ci fs v A H0 hx hts hown hK hP hD hS he h1 h2 hin hv hl hd kk
  obtain ⟨x, rfl⟩ := hv
  obtain rfl : ci = 14 := by omega
  exact va_put hx rfl hts in_X14 tyX14 tyX14_ok nmX14 hown hK hP hD hS q0 he (C := RX14) (T := TX14) (N := 32) rfl 0 (by decide) (hts _ q811) (fun x h => h) rfl (tyX14_ok 0 (by decide)) rfl rfl hl hd kk
theorem pf_6135 : pfOK RX5 135 15 15 2 0 0 := by
  intro p l e R s m args below meth c H locs cells slots Q pc ls rest D tys ws a q0 ci fs v A H0 hx hts hown hK hP hD hS he h1 h2 hin hv hl hd kk
  obtain ⟨x, rfl⟩ := hv
  obtain rfl : ci = 14 := by omega
  exact va_put hx rfl hts in_X14 tyX14 tyX14_ok nmX14 hown hK hP hD hS q0 he (C := RX14) (T := TX14) (N := 32) rfl 2 (by decide) (hts _ q816) (fun x h => h) rfl (tyX14_ok 2 (by decide)) rfl rfl hl hd kk
theorem pf_6227 : pfOK RX5 227 15 15 17 0 0 := by
  intro p l e R s m args below meth c H locs cells slots Q pc ls rest D tys ws a q0 ci fs v A H0 hx hts hown hK hP hD hS he h1 h2 hin hv hl hd kk
  obtain ⟨x, rfl⟩ := hv
  obtain rfl : ci = 14 := by omega
  exact va_put hx rfl hts in_X14 tyX14 tyX14_ok nmX14 hown hK hP hD hS q0 he (C := RX14) (T := TX14) (N := 32) rfl 17 (by decide) (hts _ q867) (fun x h => h) rfl (tyX14_ok 17 (by decide)) rfl rfl hl hd kk
theorem pf_6265 : pfOK RX5 265 15 15 26 0 0 := by
  intro p l e R s m args below meth c H locs cells slots Q pc ls rest D tys ws a q0 ci fs v A H0 hx hts hown hK hP hD hS he h1 h2 hin hv hl hd kk
  obtain ⟨x, rfl⟩ := hv
  obtain rfl : ci = 14 := by omega
  exact va_put hx rfl hts in_X14 tyX14 tyX14_ok nmX14 hown hK hP hD hS q0 he (C := RX14) (T := TX14) (N := 32) rfl 26 (by decide) (hts _ q907) (fun x h => h) rfl (tyX14_ok 26 (by decide)) rfl rfl hl hd kk
theorem pf_6283 : pfOK RX5 283 15 15 24 0 0 := by
  intro p l e R s m args below meth c H locs cells slots Q pc ls rest D tys ws a q0 ci fs v A H0 hx hts hown hK hP hD hS he h1 h2 hin hv hl hd kk
  obtain ⟨x, rfl⟩ := hv
  obtain rfl : ci = 14 := by omega
  exact va_put hx rfl hts in_X14 tyX14 tyX14_ok nmX14 hown hK hP hD hS q0 he (C := RX14) (T := TX14) (N := 32) rfl 24 (by decide) (hts _ q897) (fun x h => h) rfl (tyX14_ok 24 (by decide)) rfl rfl hl hd kk
theorem pf_6316 : pfOK RX5 316 15 15 31 0 0 := by
  intro p l e R s m args below meth c H locs cells slots Q pc ls rest D tys ws a q0 ci fs v A H0 hx hts hown hK hP hD hS he h1 h2 hin hv hl hd kk
  obtain ⟨x, rfl⟩ := hv
  obtain rfl : ci = 14 := by omega
  exact va_put hx rfl hts in_X14 tyX14 tyX14_ok nmX14 hown hK hP hD hS q0 he (C := RX14) (T := TX14) (N := 32) rfl 31 (by decide) (hts _ q932) (fun x h => h) rfl (tyX14_ok 31 (by decide)) rfl rfl hl hd kk
theorem pf_7009 : pfOK RX6 9 7 7 2 2 1 := by
  intro p l e R s m args below meth c H locs cells slots Q pc ls rest D tys ws a q0 ci fs v A H0 hx hts hown hK hP hD hS he h1 h2 hin hv hl hd kk
  obtain ⟨x, rfl⟩ := hv
  obtain rfl : ci = 6 := by omega
  exact va_putF hx rfl hts in_X6 tyX6 tyX6_ok nmX6 hown hK hP hD hS q0 he (C := RX6) (T := TX6) (N := 8) rfl 2 (by decide) (hts _ q504) (fun x h => h) rfl (hin rfl) rfl (tyX6_ok 2 (by decide)) rfl rfl hl hd kk
theorem pf_7015 : pfOK RX6 15 7 7 3 2 1 := by
  intro p l e R s m args below meth c H locs cells slots Q pc ls rest D tys ws a q0 ci fs v A H0 hx hts hown hK hP hD hS he h1 h2 hin hv hl hd kk
  obtain ⟨x, rfl⟩ := hv
  obtain rfl : ci = 6 := by omega
  exact va_putF hx rfl hts in_X6 tyX6 tyX6_ok nmX6 hown hK hP hD hS q0 he (C := RX6) (T := TX6) (N := 8) rfl 3 (by decide) (hts _ q505) (fun x h => h) rfl (hin rfl) rfl (tyX6_ok 3 (by decide)) rfl rfl hl hd kk
theorem pf_7019 : pfOK RX6 19 7 7 4 2 1 := by
  intro p l e R s m args below meth c H locs cells slots Q pc ls rest D tys ws a q0 ci fs v A H0 hx hts hown hK hP hD hS he h1 h2 hin hv hl hd kk
  obtain ⟨x, rfl⟩ := hv
  obtain rfl : ci = 6 := by omega
  exact va_putF hx rfl hts in_X6 tyX6 tyX6_ok nmX6 hown hK hP hD hS q0 he (C := RX6) (T := TX6) (N := 8) rfl 4 (by decide) (hts _ q506) (fun x h => h) rfl (hin rfl) rfl (tyX6_ok 4 (by decide)) rfl rfl hl hd kk
theorem pf_7022 : pfOK RX6 22 7 7 5 2 1 := by
  intro p l e R s m args below meth c H locs cells slots Q pc ls rest D tys ws a q0 ci fs v A H0 hx hts hown hK hP hD hS he h1 h2 hin hv hl hd kk
  obtain ⟨x, rfl⟩ := hv
  obtain rfl : ci = 6 := by omega
  exact va_putF hx rfl hts in_X6 tyX6 tyX6_ok nmX6 hown hK hP hD hS q0 he (C := RX6) (T := TX6) (N := 8) rfl 5 (by decide) (hts _ q507) (fun x h => h) rfl (hin rfl) rfl (tyX6_ok 5 (by decide)) rfl rfl hl hd kk
theorem pf_7025 : pfOK RX6 25 7 7 0 2 1 := by
  intro p l e R s m args below meth c H locs cells slots Q pc ls rest D tys ws a q0 ci fs v A H0 hx hts hown hK hP hD hS he h1 h2 hin hv hl hd kk
  obtain ⟨x, rfl⟩ := hv
  obtain rfl : ci = 6 := by omega
  exact va_putF hx rfl hts in_X6 tyX6 tyX6_ok nmX6 hown hK hP hD hS q0 he (C := RX6) (T := TX6) (N := 8) rfl 0 (by decide) (hts _ q502) (fun x h => h) rfl (hin rfl) rfl (tyX6_ok 0 (by decide)) rfl rfl hl hd kk
theorem pf_7029 : pfOK RX6 29 7 7 1 2 0 := by
  intro p l e R s m args below meth c H locs cells slots Q pc ls rest D tys ws a q0 ci fs v A H0 hx hts hown hK hP hD hS he h1 h2 hin hv hl hd kk
  obtain ⟨x, rfl⟩ := hv
  obtain rfl : ci = 6 := by omega
  exact va_put hx rfl hts in_X6 tyX6 tyX6_ok nmX6 hown hK hP hD hS q0 he (C := RX6) (T := TX6) (N := 8) rfl 1 (by decide) (hts _ q503) (fun x h => h) rfl (tyX6_ok 1 (by decide)) rfl rfl hl hd kk
theorem pf_7065 : pfOK RX6 65 7 7 7 3 0 := by
  intro p l e R s m args below meth c H locs cells slots Q pc ls rest D tys ws a q0 ci fs v A H0 hx hts hown hK hP hD hS he h1 h2 hin hv hl hd kk
  rcases hv with rfl | rfl
  · obtain rfl : ci = 6 := by omega
    exact va_put hx rfl hts in_X6 tyX6 tyX6_ok nmX6 hown hK hP hD hS q0 he (C := RX6) (T := TX6) (N := 8) rfl 7 (by decide) (hts _ q509) (fun x h => h) rfl (tyX6_ok 7 (by decide)) rfl rfl hl hd kk
  · obtain rfl : ci = 6 := by omega
    exact va_put hx rfl hts in_X6 tyX6 tyX6_ok nmX6 hown hK hP hD hS q0 he (C := RX6) (T := TX6) (N := 8) rfl 7 (by decide) (hts _ q509) (fun x h => h) rfl (tyX6_ok 7 (by decide)) rfl rfl hl hd kk
theorem pf_7115 : pfOK RX6 115 7 7 6 0 0 := by
  intro p l e R s m args below meth c H locs cells slots Q pc ls rest D tys ws a q0 ci fs v A H0 hx hts hown hK hP hD hS he h1 h2 hin hv hl hd kk
  obtain ⟨x, rfl⟩ := hv
  obtain rfl : ci = 6 := by omega
  exact va_put hx rfl hts in_X6 tyX6 tyX6_ok nmX6 hown hK hP hD hS q0 he (C := RX6) (T := TX6) (N := 8) rfl 6 (by decide) (hts _ q508) (fun x h => h) rfl (tyX6_ok 6 (by decide)) rfl rfl hl hd kk
theorem pf_8012 : pfOK RX7 12 8 8 1 2 1 := by
  intro p l e R s m args below meth c H locs cells slots Q pc ls rest D tys ws a q0 ci fs v A H0 hx hts hown hK hP hD hS he h1 h2 hin hv hl hd kk
  obtain ⟨x, rfl⟩ := hv
  obtain rfl : ci = 7 := by omega
  exact va_putF hx rfl hts in_X7 tyX7 tyX7_ok nmX7 hown hK hP hD hS q0 he (C := RX7) (T := TX7) (N := 25) rfl 1 (by decide) (hts _ q650) (fun x h => h) rfl (hin rfl) rfl (tyX7_ok 1 (by decide)) rfl rfl hl hd kk
theorem pf_8023 : pfOK RX7 23 8 8 2 2 1 := by
  intro p l e R s m args below meth c H locs cells slots Q pc ls rest D tys ws a q0 ci fs v A H0 hx hts hown hK hP hD hS he h1 h2 hin hv hl hd kk
  obtain ⟨x, rfl⟩ := hv
  obtain rfl : ci = 7 := by omega
  exact va_putF hx rfl hts in_X7 tyX7 tyX7_ok nmX7 hown hK hP hD hS q0 he (C := RX7) (T := TX7) (N := 25) rfl 2 (by decide) (hts _ q652) (fun x h => h) rfl (hin rfl) rfl (tyX7_ok 2 (by decide)) rfl rfl hl hd kk
theorem pf_8032 : pfOK RX7 32 8 8 3 2 1 := by
  intro p l e R s m args below meth c H locs cells slots Q pc ls rest D tys ws a q0 ci fs v A H0 hx hts hown hK hP hD hS he h1 h2 hin hv hl hd kk
  obtain ⟨x, rfl⟩ := hv
  obtain rfl : ci = 7 := by omega
  exact va_putF hx rfl hts in_X7 tyX7 tyX7_ok nmX7 hown hK hP hD hS q0 he (C := RX7) (T := TX7) (N := 25) rfl 3 (by decide) (hts _ q653) (fun x h => h) rfl (hin rfl) rfl (tyX7_ok 3 (by decide)) rfl rfl hl hd kk
theorem pf_8036 : pfOK RX7 36 8 8 4 2 1 := by
  intro p l e R s m args below meth c H locs cells slots Q pc ls rest D tys ws a q0 ci fs v A H0 hx hts hown hK hP hD hS he h1 h2 hin hv hl hd kk
  obtain ⟨x, rfl⟩ := hv
  obtain rfl : ci = 7 := by omega
  exact va_putF hx rfl hts in_X7 tyX7 tyX7_ok nmX7 hown hK hP hD hS q0 he (C := RX7) (T := TX7) (N := 25) rfl 4 (by decide) (hts _ q655) (fun x h => h) rfl (hin rfl) rfl (tyX7_ok 4 (by decide)) rfl rfl hl hd kk
theorem pf_8040 : pfOK RX7 40 8 8 5 2 1 := by
  intro p l e R s m args below meth c H locs cells slots Q pc ls rest D tys ws a q0 ci fs v A H0 hx hts hown hK hP hD hS he h1 h2 hin hv hl hd kk
  obtain ⟨x, rfl⟩ := hv
  obtain rfl : ci = 7 := by omega
  exact va_putF hx rfl hts in_X7 tyX7 tyX7_ok nmX7 hown hK hP hD hS q0 he (C := RX7) (T := TX7) (N := 25) rfl 5 (by decide) (hts _ q657) (fun x h => h) rfl (hin rfl) rfl (tyX7_ok 5 (by decide)) rfl rfl hl hd kk
theorem pf_8044 : pfOK RX7 44 8 8 6 2 1 := by
  intro p l e R s m args below meth c H locs cells slots Q pc ls rest D tys ws a q0 ci fs v A H0 hx hts hown hK hP hD hS he h1 h2 hin hv hl hd kk
  obtain ⟨x, rfl⟩ := hv
  obtain rfl : ci = 7 := by omega
  exact va_putF hx rfl hts in_X7 tyX7 tyX7_ok nmX7 hown hK hP hD hS q0 he (C := RX7) (T := TX7) (N := 25) rfl 6 (by decide) (hts _ q658) (fun x h => h) rfl (hin rfl) rfl (tyX7_ok 6 (by decide)) rfl rfl hl hd kk
theorem pf_8051 : pfOK RX7 51 8 8 7 2 1 := by
  intro p l e R s m args below meth c H locs cells slots Q pc ls rest D tys ws a q0 ci fs v A H0 hx hts hown hK hP hD hS he h1 h2 hin hv hl hd kk
  obtain ⟨x, rfl⟩ := hv
  obtain rfl : ci = 7 := by omega
  exact va_putF hx rfl hts in_X7 tyX7 tyX7_ok nmX7 hown hK hP hD hS q0 he (C := RX7) (T := TX7) (N := 25) rfl 7 (by decide) (hts _ q660) (fun x h => h) rfl (hin rfl) rfl (tyX7_ok 7 (by decide)) rfl rfl hl hd kk
theorem pf_8055 : pfOK RX7 55 8 8 8 2 1 := by
  intro p l e R s m args below meth c H locs cells slots Q pc ls rest D tys ws a q0 ci fs v A H0 hx hts hown hK hP hD hS he h1 h2 hin hv hl hd kk
  obtain ⟨x, rfl⟩ := hv
  obtain rfl : ci = 7 := by omega
  exact va_putF hx rfl hts in_X7 tyX7 tyX7_ok nmX7 hown hK hP hD hS q0 he (C := RX7) (T := TX7) (N := 25) rfl 8 (by decide) (hts _ q661) (fun x h => h) rfl (hin rfl) rfl (tyX7_ok 8 (by decide)) rfl rfl hl hd kk
theorem pf_8058 : pfOK RX7 58 8 8 9 2 1 := by
  intro p l e R s m args below meth c H locs cells slots Q pc ls rest D tys ws a q0 ci fs v A H0 hx hts hown hK hP hD hS he h1 h2 hin hv hl hd kk
  obtain ⟨x, rfl⟩ := hv
  obtain rfl : ci = 7 := by omega
  exact va_putF hx rfl hts in_X7 tyX7 tyX7_ok nmX7 hown hK hP hD hS q0 he (C := RX7) (T := TX7) (N := 25) rfl 9 (by decide) (hts _ q662) (fun x h => h) rfl (hin rfl) rfl (tyX7_ok 9 (by decide)) rfl rfl hl hd kk
theorem pf_8061 : pfOK RX7 61 8 8 10 2 1 := by
  intro p l e R s m args below meth c H locs cells slots Q pc ls rest D tys ws a q0 ci fs v A H0 hx hts hown hK hP hD hS he h1 h2 hin hv hl hd kk
  obtain ⟨x, rfl⟩ := hv
  obtain rfl : ci = 7 := by omega
  exact va_putF hx rfl hts in_X7 tyX7 tyX7_ok nmX7 hown hK hP hD hS q0 he (C := RX7) (T := TX7) (N := 25) rfl 10 (by decide) (hts _ q664) (fun x h => h) rfl (hin rfl) rfl (tyX7_ok 10 (by decide)) rfl rfl hl hd kk
theorem pf_8064 : pfOK RX7 64 8 8 11 2 1 := by
  intro p l e R s m args below meth c H locs cells slots Q pc ls rest D tys ws a q0 ci fs v A H0 hx hts hown hK hP hD hS he h1 h2 hin hv hl hd kk
  obtain ⟨x, rfl⟩ := hv
  obtain rfl : ci = 7 := by omega
  exact va_putF hx rfl hts in_X7 tyX7 tyX7_ok nmX7 hown hK hP hD hS q0 he (C := RX7) (T := TX7) (N := 25) rfl 11 (by decide) (hts _ q665) (fun x h => h) rfl (hin rfl) rfl (tyX7_ok 11 (by decide)) rfl rfl hl hd kk
theorem pf_8067 : pfOK RX7 67 8 8 12 2 1 := by
  intro p l e R s m args below meth c H locs cells slots Q pc ls rest D tys ws a q0 ci fs v A H0 hx hts hown hK hP hD hS he h1 h2 hin hv hl hd kk
  obtain ⟨x, rfl⟩ := hv
  obtain rfl : ci = 7 := by omega
  exact va_putF hx rfl hts in_X7 tyX7 tyX7_ok nmX7 hown hK hP hD hS q0 he (C := RX7) (T := TX7) (N := 25) rfl 12 (by decide) (hts _ q666) (fun x h => h) rfl (hin rfl) rfl (tyX7_ok 12 (by decide)) rfl rfl hl hd kk
theorem pf_8070 : pfOK RX7 70 8 8 13 2 1 := by
  intro p l e R s m args below meth c H locs cells slots Q pc ls rest D tys ws a q0 ci fs v A H0 hx hts hown hK hP hD hS he h1 h2 hin hv hl hd kk
  obtain ⟨x, rfl⟩ := hv
  obtain rfl : ci = 7 := by omega
  exact va_putF hx rfl hts in_X7 tyX7 tyX7_ok nmX7 hown hK hP hD hS q0 he (C := RX7) (T := TX7) (N := 25) rfl 13 (by decide) (hts _ q667) (fun x h => h) rfl (hin rfl) rfl (tyX7_ok 13 (by decide)) rfl rfl hl hd kk
theorem pf_8073 : pfOK RX7 73 8 8 14 2 1 := by
  intro p l e R s m args below meth c H locs cells slots Q pc ls rest D tys ws a q0 ci fs v A H0 hx hts hown hK hP hD hS he h1 h2 hin hv hl hd kk
  obtain ⟨x, rfl⟩ := hv
  obtain rfl : ci = 7 := by omega
  exact va_putF hx rfl hts in_X7 tyX7 tyX7_ok nmX7 hown hK hP hD hS q0 he (C := RX7) (T := TX7) (N := 25) rfl 14 (by decide) (hts _ q668) (fun x h => h) rfl (hin rfl) rfl (tyX7_ok 14 (by decide)) rfl rfl hl hd kk
theorem pf_8076 : pfOK RX7 76 8 8 15 2 1 := by
  intro p l e R s m args below meth c H locs cells slots Q pc ls rest D tys ws a q0 ci fs v A H0 hx hts hown hK hP hD hS he h1 h2 hin hv hl hd kk
  obtain ⟨x, rfl⟩ := hv
  obtain rfl : ci = 7 := by omega
  exact va_putF hx rfl hts in_X7 tyX7 tyX7_ok nmX7 hown hK hP hD hS q0 he (C := RX7) (T := TX7) (N := 25) rfl 15 (by decide) (hts _ q670) (fun x h => h) rfl (hin rfl) rfl (tyX7_ok 15 (by decide)) rfl rfl hl hd kk
theorem pf_8079 : pfOK RX7 79 8 8 16 2 1 := by
  intro p l e R s m args below meth c H locs cells slots Q pc ls rest D tys ws a q0 ci fs v A H0 hx hts hown hK hP hD hS he h1 h2 hin hv hl hd kk
  obtain ⟨x, rfl⟩ := hv
  obtain rfl : ci = 7 := by omega
  exact va_putF hx rfl hts in_X7 tyX7 tyX7_ok nmX7 hown hK hP hD hS q0 he (C := RX7) (T := TX7) (N := 25) rfl 16 (by decide) (hts _ q671) (fun x h => h) rfl (hin rfl) rfl (tyX7_ok 16 (by decide)) rfl rfl hl hd kk
theorem pf_8082 : pfOK RX7 82 8 8 17 2 1 := by
  intro p l e R s m args below meth c H locs cells slots Q pc ls rest D tys ws a q0 ci fs v A H0 hx hts hown hK hP hD hS he h1 h2 hin hv hl hd kk
  obtain ⟨x, rfl⟩ := hv
  obtain rfl : ci = 7 := by omega
  exact va_putF hx rfl hts in_X7 tyX7 tyX7_ok nmX7 hown hK hP hD hS q0 he (C := RX7) (T := TX7) (N := 25) rfl 17 (by decide) (hts _ q672) (fun x h => h) rfl (hin rfl) rfl (tyX7_ok 17 (by decide)) rfl rfl hl hd kk
theorem pf_8085 : pfOK RX7 85 8 8 20 2 1 := by
  intro p l e R s m args below meth c H locs cells slots Q pc ls rest D tys ws a q0 ci fs v A H0 hx hts hown hK hP hD hS he h1 h2 hin hv hl hd kk
  obtain ⟨x, rfl⟩ := hv
  obtain rfl : ci = 7 := by omega
  exact va_putF hx rfl hts in_X7 tyX7 tyX7_ok nmX7 hown hK hP hD hS q0 he (C := RX7) (T := TX7) (N := 25) rfl 20 (by decide) (hts _ q675) (fun x h => h) rfl (hin rfl) rfl (tyX7_ok 20 (by decide)) rfl rfl hl hd kk
theorem pf_8088 : pfOK RX7 88 8 8 21 2 1 := by
  intro p l e R s m args below meth c H locs cells slots Q pc ls rest D tys ws a q0 ci fs v A H0 hx hts hown hK hP hD hS he h1 h2 hin hv hl hd kk
  obtain ⟨x, rfl⟩ := hv
  obtain rfl : ci = 7 := by omega
  exact va_putF hx rfl hts in_X7 tyX7 tyX7_ok nmX7 hown hK hP hD hS q0 he (C := RX7) (T := TX7) (N := 25) rfl 21 (by decide) (hts _ q676) (fun x h => h) rfl (hin rfl) rfl (tyX7_ok 21 (by decide)) rfl rfl hl hd kk
theorem pf_8091 : pfOK RX7 91 8 8 0 2 0 := by
  intro p l e R s m args below meth c H locs cells slots Q pc ls rest D tys ws a q0 ci fs v A H0 hx hts hown hK hP hD hS he h1 h2 hin hv hl hd kk
  obtain ⟨x, rfl⟩ := hv
  obtain rfl : ci = 7 := by omega
  exact va_put hx rfl hts in_X7 tyX7 tyX7_ok nmX7 hown hK hP hD hS q0 he (C := RX7) (T := TX7) (N := 25) rfl 0 (by decide) (hts _ q649) (fun x h => h) rfl (tyX7_ok 0 (by decide)) rfl rfl hl hd kk
theorem pf_8107 : pfOK RX7 107 8 8 19 0 0 := by
  intro p l e R s m args below meth c H locs cells slots Q pc ls rest D tys ws a q0 ci fs v A H0 hx hts hown hK hP hD hS he h1 h2 hin hv hl hd kk
  obtain ⟨x, rfl⟩ := hv
  obtain rfl : ci = 7 := by omega
  exact va_put hx rfl hts in_X7 tyX7 tyX7_ok nmX7 hown hK hP hD hS q0 he (C := RX7) (T := TX7) (N := 25) rfl 19 (by decide) (hts _ q674) (fun x h => h) rfl (tyX7_ok 19 (by decide)) rfl rfl hl hd kk
theorem pf_8110 : pfOK RX7 110 8 8 18 0 0 := by
  intro p l e R s m args below meth c H locs cells slots Q pc ls rest D tys ws a q0 ci fs v A H0 hx hts hown hK hP hD hS he h1 h2 hin hv hl hd kk
  obtain ⟨x, rfl⟩ := hv
  obtain rfl : ci = 7 := by omega
  exact va_put hx rfl hts in_X7 tyX7 tyX7_ok nmX7 hown hK hP hD hS q0 he (C := RX7) (T := TX7) (N := 25) rfl 18 (by decide) (hts _ q673) (fun x h => h) rfl (tyX7_ok 18 (by decide)) rfl rfl hl hd kk
theorem pf_8178 : pfOK RX7 178 8 8 22 0 0 := by
  intro p l e R s m args below meth c H locs cells slots Q pc ls rest D tys ws a q0 ci fs v A H0 hx hts hown hK hP hD hS he h1 h2 hin hv hl hd kk
  obtain ⟨x, rfl⟩ := hv
  obtain rfl : ci = 7 := by omega
  exact va_put hx rfl hts in_X7 tyX7 tyX7_ok nmX7 hown hK hP hD hS q0 he (C := RX7) (T := TX7) (N := 25) rfl 22 (by decide) (hts _ q677) (fun x h => h) rfl (tyX7_ok 22 (by decide)) rfl rfl hl hd kk
theorem pf_8193 : pfOK RX7 193 8 8 23 1 0 := by
  intro p l e R s m args below meth c H locs cells slots Q pc ls rest D tys ws a q0 ci fs v A H0 hx hts hown hK hP hD hS he h1 h2 hin hv hl hd kk
  obtain ⟨x, rfl⟩ := hv
  obtain rfl : ci = 7 := by omega
  exact va_put hx rfl hts in_X7 tyX7 tyX7_ok nmX7 hown hK hP hD hS q0 he (C := RX7) (T := TX7) (N := 25) rfl 23 (by decide) (hts _ q678) (fun x h => h) rfl (tyX7_ok 23 (by decide)) rfl rfl hl hd kk
theorem pf_8197 : pfOK RX7 197 8 8 24 0 0 := by
  intro p l e R s m args below meth c H locs cells slots Q pc ls rest D tys ws a q0 ci fs v A H0 hx hts hown hK hP hD hS he h1 h2 hin hv hl hd kk
  obtain ⟨x, rfl⟩ := hv
  obtain rfl : ci = 7 := by omega
  exact va_put hx rfl hts in_X7 tyX7 tyX7_ok nmX7 hown hK hP hD hS q0 he (C := RX7) (T := TX7) (N := 25) rfl 24 (by decide) (hts _ q679) (fun x h => h) rfl (tyX7_ok 24 (by decide)) rfl rfl hl hd kk
theorem pf_9009 : pfOK RX8 9 9 9 0 2 0 := by
  intro p l e R s m args below meth c H locs cells slots Q pc ls rest D tys ws a q0 ci fs v A H0 hx hts hown hK hP hD hS he h1 h2 hin hv hl hd kk
  obtain ⟨x, rfl⟩ := hv
  obtain rfl : ci = 8 := by omega
  exact va_put hx rfl hts in_X8 tyX8 tyX8_ok nmX8 hown hK hP hD hS q0 he (C := RX8) (T := TX8) (N := 2) rfl 0 (by decide) (hts _ q540) (fun x h => h) rfl (tyX8_ok 0 (by decide)) rfl rfl hl hd kk
theorem pf_9015 : pfOK RX8 15 9 9 1 0 0 := by
  intro p l e R s m args below meth c H locs cells slots Q pc ls rest D tys ws a q0 ci fs v A H0 hx hts hown hK hP hD hS he h1 h2 hin hv hl hd kk
  obtain ⟨x, rfl⟩ := hv
  obtain rfl : ci = 8 := by omega
  exact va_put hx rfl hts in_X8 tyX8 tyX8_ok nmX8 hown hK hP hD hS q0 he (C := RX8) (T := TX8) (N := 2) rfl 1 (by decide) (hts _ q541) (fun x h => h) rfl (tyX8_ok 1 (by decide)) rfl rfl hl hd kk
theorem pf_10009 : pfOK RX9 9 10 10 0 2 1 := by
  intro p l e R s m args below meth c H locs cells slots Q pc ls rest D tys ws a q0 ci fs v A H0 hx hts hown hK hP hD hS he h1 h2 hin hv hl hd kk
  obtain ⟨x, rfl⟩ := hv
  obtain rfl : ci = 9 := by omega
  exact va_putF hx rfl hts in_X9 tyX9 tyX9_ok nmX9 hown hK hP hD hS q0 he (C := RX9) (T := TX9) (N := 5) rfl 0 (by decide) (hts _ q554) (fun x h => h) rfl (hin rfl) rfl (tyX9_ok 0 (by decide)) rfl rfl hl hd kk
theorem pf_10026 : pfOK RX9 26 10 10 1 0 0 := by
  intro p l e R s m args below meth c H locs cells slots Q pc ls rest D tys ws a q0 ci fs v A H0 hx hts hown hK hP hD hS he h1 h2 hin hv hl hd kk
  obtain ⟨x, rfl⟩ := hv
  obtain rfl : ci = 9 := by omega
  exact va_put hx rfl hts in_X9 tyX9 tyX9_ok nmX9 hown hK hP hD hS q0 he (C := RX9) (T := TX9) (N := 5) rfl 1 (by decide) (hts _ q555) (fun x h => h) rfl (tyX9_ok 1 (by decide)) rfl rfl hl hd kk
theorem pf_10034 : pfOK RX9 34 10 10 2 0 0 := by
  intro p l e R s m args below meth c H locs cells slots Q pc ls rest D tys ws a q0 ci fs v A H0 hx hts hown hK hP hD hS he h1 h2 hin hv hl hd kk
  obtain ⟨x, rfl⟩ := hv
  obtain rfl : ci = 9 := by omega
  exact va_put hx rfl hts in_X9 tyX9 tyX9_ok nmX9 hown hK hP hD hS q0 he (C := RX9) (T := TX9) (N := 5) rfl 2 (by decide) (hts _ q557) (fun x h => h) rfl (tyX9_ok 2 (by decide)) rfl rfl hl hd kk
theorem pf_10069 : pfOK RX9 69 10 10 3 1 0 := by
  intro p l e R s m args below meth c H locs cells slots Q pc ls rest D tys ws a q0 ci fs v A H0 hx hts hown hK hP hD hS he h1 h2 hin hv hl hd kk
  obtain ⟨x, rfl⟩ := hv
  obtain rfl : ci = 9 := by omega
  exact va_put hx rfl hts in_X9 tyX9 tyX9_ok nmX9 hown hK hP hD hS q0 he (C := RX9) (T := TX9) (N := 5) rfl 3 (by decide) (hts _ q559) (fun x h => h) rfl (tyX9_ok 3 (by decide)) rfl rfl hl hd kk
theorem pf_10073 : pfOK RX9 73 10 10 4 1 0 := by
  intro p l e R s m args below meth c H locs cells slots Q pc ls rest D tys ws a q0 ci fs v A H0 hx hts hown hK hP hD hS he h1 h2 hin hv hl hd kk
  obtain ⟨x, rfl⟩ := hv
  obtain rfl : ci = 9 := by omega
  exact va_put hx rfl hts in_X9 tyX9 tyX9_ok nmX9 hown hK hP hD hS q0 he (C := RX9) (T := TX9) (N := 5) rfl 4 (by decide) (hts _ q560) (fun x h => h) rfl (tyX9_ok 4 (by decide)) rfl rfl hl hd kk
theorem pf_11009 : pfOK RX10 9 12 13 0 2 1 := by
  intro p l e R s m args below meth c H locs cells slots Q pc ls rest D tys ws a q0 ci fs v A H0 hx hts hown hK hP hD hS he h1 h2 hin hv hl hd kk
  obtain ⟨x, rfl⟩ := hv
  rcases (show ci = 11 ∨ ci = 12 by omega) with rfl | rfl
  · exact va_putF hx rfl hts in_X11 tyX11 tyX11_ok nmX11 hown hK hP hD hS q0 he (C := RX11) (T := TX11) (N := 8) rfl 0 (by decide) (hts _ q593) (fun x h => h) rfl (hin rfl) rfl (tyX11_ok 0 (by decide)) rfl rfl hl hd kk
  · exact va_putF hx rfl hts in_X12 tyX12 tyX12_ok nmX12 hown hK hP hD hS q0 he (C := RX12) (T := TX12) (N := 5) rfl 0 (by decide) (hts _ q593) (fun x h => h) rfl (hin rfl) rfl (tyX12_ok 0 (by decide)) rfl rfl hl hd kk
theorem pf_11015 : pfOK RX10 15 12 13 1 2 1 := by
  intro p l e R s m args below meth c H locs cells slots Q pc ls rest D tys ws a q0 ci fs v A H0 hx hts hown hK hP hD hS he h1 h2 hin hv hl hd kk
  obtain ⟨x, rfl⟩ := hv
  rcases (show ci = 11 ∨ ci = 12 by omega) with rfl | rfl
  · exact va_putF hx rfl hts in_X11 tyX11 tyX11_ok nmX11 hown hK hP hD hS q0 he (C := RX11) (T := TX11) (N := 8) rfl 1 (by decide) (hts _ q597) (fun x h => h) rfl (hin rfl) rfl (tyX11_ok 1 (by decide)) rfl rfl hl hd kk
  · exact va_putF hx rfl hts in_X12 tyX12 tyX12_ok nmX12 hown hK hP hD hS q0 he (C := RX12) (T := TX12) (N := 5) rfl 1 (by decide) (hts _ q597) (fun x h => h) rfl (hin rfl) rfl (tyX12_ok 1 (by decide)) rfl rfl hl hd kk
theorem pf_11018 : pfOK RX10 18 12 13 2 2 1 := by
  intro p l e R s m args below meth c H locs cells slots Q pc ls rest D tys ws a q0 ci fs v A H0 hx hts hown hK hP hD hS he h1 h2 hin hv hl hd kk
  obtain ⟨x, rfl⟩ := hv
  rcases (show ci = 11 ∨ ci = 12 by omega) with rfl | rfl
  · exact va_putF hx rfl hts in_X11 tyX11 tyX11_ok nmX11 hown hK hP hD hS q0 he (C := RX11) (T := TX11) (N := 8) rfl 2 (by decide) (hts _ q604) (fun x h => h) rfl (hin rfl) rfl (tyX11_ok 2 (by decide)) rfl rfl hl hd kk
  · exact va_putF hx rfl hts in_X12 tyX12 tyX12_ok nmX12 hown hK hP hD hS q0 he (C := RX12) (T := TX12) (N := 5) rfl 2 (by decide) (hts _ q604) (fun x h => h) rfl (hin rfl) rfl (tyX12_ok 2 (by decide)) rfl rfl hl hd kk
theorem pf_11021 : pfOK RX10 21 12 13 3 2 1 := by
  intro p l e R s m args below meth c H locs cells slots Q pc ls rest D tys ws a q0 ci fs v A H0 hx hts hown hK hP hD hS he h1 h2 hin hv hl hd kk
  obtain ⟨x, rfl⟩ := hv
  rcases (show ci = 11 ∨ ci = 12 by omega) with rfl | rfl
  · exact va_putF hx rfl hts in_X11 tyX11 tyX11_ok nmX11 hown hK hP hD hS q0 he (C := RX11) (T := TX11) (N := 8) rfl 3 (by decide) (hts _ q611) (fun x h => h) rfl (hin rfl) rfl (tyX11_ok 3 (by decide)) rfl rfl hl hd kk
  · exact va_putF hx rfl hts in_X12 tyX12 tyX12_ok nmX12 hown hK hP hD hS q0 he (C := RX12) (T := TX12) (N := 5) rfl 3 (by decide) (hts _ q611) (fun x h => h) rfl (hin rfl) rfl (tyX12_ok 3 (by decide)) rfl rfl hl hd kk
theorem pf_12009 : pfOK RX11 9 12 12 4 2 1 := by
  intro p l e R s m args below meth c H locs cells slots Q pc ls rest D tys ws a q0 ci fs v A H0 hx hts hown hK hP hD hS he h1 h2 hin hv hl hd kk
  obtain ⟨x, rfl⟩ := hv
  obtain rfl : ci = 11 := by omega
  exact va_putF hx rfl hts in_X11 tyX11 tyX11_ok nmX11 hown hK hP hD hS q0 he (C := RX11) (T := TX11) (N := 8) rfl 4 (by decide) (hts _ q581) (fun x h => h) rfl (hin rfl) rfl (tyX11_ok 4 (by decide)) rfl rfl hl hd kk
theorem pf_12015 : pfOK RX11 15 12 12 5 2 1 := by
  intro p l e R s m args below meth c H locs cells slots Q pc ls rest D tys ws a q0 ci fs v A H0 hx hts hown hK hP hD hS he h1 h2 hin hv hl hd kk
  obtain ⟨x, rfl⟩ := hv
  obtain rfl : ci = 11 := by omega
  exact va_putF hx rfl hts in_X11 tyX11 tyX11_ok nmX11 hown hK hP hD hS q0 he (C := RX11) (T := TX11) (N := 8) rfl 5 (by decide) (hts _ q584) (fun x h => h) rfl (hin rfl) rfl (tyX11_ok 5 (by decide)) rfl rfl hl hd kk
theorem pf_12018 : pfOK RX11 18 12 12 6 2 1 := by
  intro p l e R s m args below meth c H locs cells slots Q pc ls rest D tys ws a q0 ci fs v A H0 hx hts hown hK hP hD hS he h1 h2 hin hv hl hd kk
  obtain ⟨x, rfl⟩ := hv
  obtain rfl : ci = 11 := by omega
  exact va_putF hx rfl hts in_X11 tyX11 tyX11_ok nmX11 hown hK hP hD hS q0 he (C := RX11) (T := TX11) (N := 8) rfl 6 (by decide) (hts _ q587) (fun x h => h) rfl (hin rfl) rfl (tyX11_ok 6 (by decide)) rfl rfl hl hd kk
theorem pf_12021 : pfOK RX11 21 12 12 7 2 1 := by
  intro p l e R s m args below meth c H locs cells slots Q pc ls rest D tys ws a q0 ci fs v A H0 hx hts hown hK hP hD hS he h1 h2 hin hv hl hd kk
  obtain ⟨x, rfl⟩ := hv
  obtain rfl : ci = 11 := by omega
  exact va_putF hx rfl hts in_X11 tyX11 tyX11_ok nmX11 hown hK hP hD hS q0 he (C := RX11) (T := TX11) (N := 8) rfl 7 (by decide) (hts _ q590) (fun x h => h) rfl (hin rfl) rfl (tyX11_ok 7 (by decide)) rfl rfl hl hd kk
theorem pf_13007 : pfOK RX12 7 13 13 4 2 1 := by
  intro p l e R s m args below meth c H locs cells slots Q pc ls rest D tys ws a q0 ci fs v A H0 hx hts hown hK hP hD hS he h1 h2 hin hv hl hd kk
  obtain ⟨x, rfl⟩ := hv
  obtain rfl : ci = 12 := by omega
  exact va_putF hx rfl hts in_X12 tyX12 tyX12_ok nmX12 hown hK hP hD hS q0 he (C := RX12) (T := TX12) (N := 5) rfl 4 (by decide) (hts _ q639) (fun x h => h) rfl (hin rfl) rfl (tyX12_ok 4 (by decide)) rfl rfl hl hd kk
theorem pf_14011 : pfOK RX13 11 14 14 1 2 1 := by
  intro p l e R s m args below meth c H locs cells slots Q pc ls rest D tys ws a q0 ci fs v A H0 hx hts hown hK hP hD hS he h1 h2 hin hv hl hd kk
  obtain ⟨x, rfl⟩ := hv
  obtain rfl : ci = 13 := by omega
  exact va_putF hx rfl hts in_X13 tyX13 tyX13_ok nmX13 hown hK hP hD hS q0 he (C := RX13) (T := TX13) (N := 20) rfl 1 (by decide) (hts _ q738) (fun x h => h) rfl (hin rfl) rfl (tyX13_ok 1 (by decide)) rfl rfl hl hd kk
theorem pf_14015 : pfOK RX13 15 14 14 2 2 1 := by
  intro p l e R s m args below meth c H locs cells slots Q pc ls rest D tys ws a q0 ci fs v A H0 hx hts hown hK hP hD hS he h1 h2 hin hv hl hd kk
  obtain ⟨x, rfl⟩ := hv
  obtain rfl : ci = 13 := by omega
  exact va_putF hx rfl hts in_X13 tyX13 tyX13_ok nmX13 hown hK hP hD hS q0 he (C := RX13) (T := TX13) (N := 20) rfl 2 (by decide) (hts _ q739) (fun x h => h) rfl (hin rfl) rfl (tyX13_ok 2 (by decide)) rfl rfl hl hd kk
theorem pf_14018 : pfOK RX13 18 14 14 3 2 1 := by
  intro p l e R s m args below meth c H locs cells slots Q pc ls rest D tys ws a q0 ci fs v A H0 hx hts hown hK hP hD hS he h1 h2 hin hv hl hd kk
  obtain ⟨x, rfl⟩ := hv
  obtain rfl : ci = 13 := by omega
  exact va_putF hx rfl hts in_X13 tyX13 tyX13_ok nmX13 hown hK hP hD hS q0 he (C := RX13) (T := TX13) (N := 20) rfl 3 (by decide) (hts _ q740) (fun x h => h) rfl (hin rfl) rfl (tyX13_ok 3 (by decide)) rfl rfl hl hd kk
theorem pf_14021 : pfOK RX13 21 14 14 4 2 1 := by
  intro p l e R s m args below meth c H locs cells slots Q pc ls rest D tys ws a q0 ci fs v A H0 hx hts hown hK hP hD hS he h1 h2 hin hv hl hd kk
  obtain ⟨x, rfl⟩ := hv
  obtain rfl : ci = 13 := by omega
  exact va_putF hx rfl hts in_X13 tyX13 tyX13_ok nmX13 hown hK hP hD hS q0 he (C := RX13) (T := TX13) (N := 20) rfl 4 (by decide) (hts _ q741) (fun x h => h) rfl (hin rfl) rfl (tyX13_ok 4 (by decide)) rfl rfl hl hd kk
theorem pf_14024 : pfOK RX13 24 14 14 7 2 1 := by
  intro p l e R s m args below meth c H locs cells slots Q pc ls rest D tys ws a q0 ci fs v A H0 hx hts hown hK hP hD hS he h1 h2 hin hv hl hd kk
  obtain ⟨x, rfl⟩ := hv
  obtain rfl : ci = 13 := by omega
  exact va_putF hx rfl hts in_X13 tyX13 tyX13_ok nmX13 hown hK hP hD hS q0 he (C := RX13) (T := TX13) (N := 20) rfl 7 (by decide) (hts _ q744) (fun x h => h) rfl (hin rfl) rfl (tyX13_ok 7 (by decide)) rfl rfl hl hd kk
theorem pf_14027 : pfOK RX13 27 14 14 8 2 1 := by
  intro p l e R s m args below meth c H locs cells slots Q pc ls rest D tys ws a q0 ci fs v A H0 hx hts hown hK hP hD hS he h1 h2 hin hv hl hd kk
  obtain ⟨x, rfl⟩ := hv
  obtain rfl : ci = 13 := by omega
  exact va_putF hx rfl hts in_X13 tyX13 tyX13_ok nmX13 hown hK hP hD hS q0 he (C := RX13) (T := TX13) (N := 20) rfl 8 (by decide) (hts _ q745) (fun x h => h) rfl (hin rfl) rfl (tyX13_ok 8 (by decide)) rfl rfl hl hd kk
theorem pf_14030 : pfOK RX13 30 14 14 9 2 1 := by
  intro p l e R s m args below meth c H locs cells slots Q pc ls rest D tys ws a q0 ci fs v A H0 hx hts hown hK hP hD hS he h1 h2 hin hv hl hd kk
  obtain ⟨x, rfl⟩ := hv
  obtain rfl : ci = 13 := by omega
  exact va_putF hx rfl hts in_X13 tyX13 tyX13_ok nmX13 hown hK hP hD hS q0 he (C := RX13) (T := TX13) (N := 20) rfl 9 (by decide) (hts _ q746) (fun x h => h) rfl (hin rfl) rfl (tyX13_ok 9 (by decide)) rfl rfl hl hd kk
theorem pf_14033 : pfOK RX13 33 14 14 14 2 1 := by
  intro p l e R s m args below meth c H locs cells slots Q pc ls rest D tys ws a q0 ci fs v A H0 hx hts hown hK hP hD hS he h1 h2 hin hv hl hd kk
  obtain ⟨x, rfl⟩ := hv
  obtain rfl : ci = 13 := by omega
  exact va_putF hx rfl hts in_X13 tyX13 tyX13_ok nmX13 hown hK hP hD hS q0 he (C := RX13) (T := TX13) (N := 20) rfl 14 (by decide) (hts _ q751) (fun x h => h) rfl (hin rfl) rfl (tyX13_ok 14 (by decide)) rfl rfl hl hd kk
theorem pf_14036 : pfOK RX13 36 14 14 0 2 0 := by
  intro p l e R s m args below meth c H locs cells slots Q pc ls rest D tys ws a q0 ci fs v A H0 hx hts hown hK hP hD hS he h1 h2 hin hv hl hd kk
  obtain ⟨x, rfl⟩ := hv
  obtain rfl : ci = 13 := by omega
  exact va_put hx rfl hts in_X13 tyX13 tyX13_ok nmX13 hown hK hP hD hS q0 he (C := RX13) (T := TX13) (N := 20) rfl 0 (by decide) (hts _ q737) (fun x h => h) rfl (tyX13_ok 0 (by decide)) rfl rfl hl hd kk
theorem pf_14040 : pfOK RX13 40 14 14 11 2 0 := by
  intro p l e R s m args below meth c H locs cells slots Q pc ls rest D tys ws a q0 ci fs v A H0 hx hts hown hK hP hD hS he h1 h2 hin hv hl hd kk
  obtain ⟨x, rfl⟩ := hv
  obtain rfl : ci = 13 := by omega
  exact va_put hx rfl hts in_X13 tyX13 tyX13_ok nmX13 hown hK hP hD hS q0 he (C := RX13) (T := TX13) (N := 20) rfl 11 (by decide) (hts _ q748) (fun x h => h) rfl (tyX13_ok 11 (by decide)) rfl rfl hl hd kk
theorem pf_14043 : pfOK RX13 43 14 14 12 0 0 := by
  intro p l e R s m args below meth c H locs cells slots Q pc ls rest D tys ws a q0 ci fs v A H0 hx hts hown hK hP hD hS he h1 h2 hin hv hl hd kk
  obtain ⟨x, rfl⟩ := hv
  obtain rfl : ci = 13 := by omega
  exact va_put hx rfl hts in_X13 tyX13 tyX13_ok nmX13 hown hK hP hD hS q0 he (C := RX13) (T := TX13) (N := 20) rfl 12 (by decide) (hts _ q749) (fun x h => h) rfl (tyX13_ok 12 (by decide)) rfl rfl hl hd kk
theorem pf_14047 : pfOK RX13 47 14 14 13 0 0 := by
  intro p l e R s m args below meth c H locs cells slots Q pc ls rest D tys ws a q0 ci fs v A H0 hx hts hown hK hP hD hS he h1 h2 hin hv hl hd kk
  obtain ⟨x, rfl⟩ := hv
  obtain rfl : ci = 13 := by omega
  exact va_put hx rfl hts in_X13 tyX13 tyX13_ok nmX13 hown hK hP hD hS q0 he (C := RX13) (T := TX13) (N := 20) rfl 13 (by decide) (hts _ q750) (fun x h => h) rfl (tyX13_ok 13 (by decide)) rfl rfl hl hd kk
theorem pf_14050 : pfOK RX13 50 14 14 15 0 0 := by
  intro p l e R s m args below meth c H locs cells slots Q pc ls rest D tys ws a q0 ci fs v A H0 hx hts hown hK hP hD hS he h1 h2 hin hv hl hd kk
  obtain ⟨x, rfl⟩ := hv
  obtain rfl : ci = 13 := by omega
  exact va_put hx rfl hts in_X13 tyX13 tyX13_ok nmX13 hown hK hP hD hS q0 he (C := RX13) (T := TX13) (N := 20) rfl 15 (by decide) (hts _ q753) (fun x h => h) rfl (tyX13_ok 15 (by decide)) rfl rfl hl hd kk
theorem pf_14053 : pfOK RX13 53 14 14 16 0 0 := by
  intro p l e R s m args below meth c H locs cells slots Q pc ls rest D tys ws a q0 ci fs v A H0 hx hts hown hK hP hD hS he h1 h2 hin hv hl hd kk
  obtain ⟨x, rfl⟩ := hv
  obtain rfl : ci = 13 := by omega
  exact va_put hx rfl hts in_X13 tyX13 tyX13_ok nmX13 hown hK hP hD hS q0 he (C := RX13) (T := TX13) (N := 20) rfl 16 (by decide) (hts _ q755) (fun x h => h) rfl (tyX13_ok 16 (by decide)) rfl rfl hl hd kk
theorem pf_14056 : pfOK RX13 56 14 14 18 0 0 := by
  intro p l e R s m args below meth c H locs cells slots Q pc ls rest D tys ws a q0 ci fs v A H0 hx hts hown hK hP hD hS he h1 h2 hin hv hl hd kk
  obtain ⟨x, rfl⟩ := hv
  obtain rfl : ci = 13 := by omega
  exact va_put hx rfl hts in_X13 tyX13 tyX13_ok nmX13 hown hK hP hD hS q0 he (C := RX13) (T := TX13) (N := 20) rfl 18 (by decide) (hts _ q759) (fun x h => h) rfl (tyX13_ok 18 (by decide)) rfl rfl hl hd kk
theorem pf_14059 : pfOK RX13 59 14 14 5 0 0 := by
  intro p l e R s m args below meth c H locs cells slots Q pc ls rest D tys ws a q0 ci fs v A H0 hx hts hown hK hP hD hS he h1 h2 hin hv hl hd kk
  obtain ⟨x, rfl⟩ := hv
  obtain rfl : ci = 13 := by omega
  exact va_put hx rfl hts in_X13 tyX13 tyX13_ok nmX13 hown hK hP hD hS q0 he (C := RX13) (T := TX13) (N := 20) rfl 5 (by decide) (hts _ q742) (fun x h => h) rfl (tyX13_ok 5 (by decide)) rfl rfl hl hd kk
theorem pf_14062 : pfOK RX13 62 14 14 6 0 0 := by
  intro p l e R s m args below meth c H locs cells slots Q pc ls rest D tys ws a q0 ci fs v A H0 hx hts hown hK hP hD hS he h1 h2 hin hv hl hd kk
  obtain ⟨x, rfl⟩ := hv
  obtain rfl : ci = 13 := by omega
  exact va_put hx rfl hts in_X13 tyX13 tyX13_ok nmX13 hown hK hP hD hS q0 he (C := RX13) (T := TX13) (N := 20) rfl 6 (by decide) (hts _ q743) (fun x h => h) rfl (tyX13_ok 6 (by decide)) rfl rfl hl hd kk
theorem pf_14065 : pfOK RX13 65 14 14 10 0 0 := by
  intro p l e R s m args below meth c H locs cells slots Q pc ls rest D tys ws a q0 ci fs v A H0 hx hts hown hK hP hD hS he h1 h2 hin hv hl hd kk
  obtain ⟨x, rfl⟩ := hv
  obtain rfl : ci = 13 := by omega
  exact va_put hx rfl hts in_X13 tyX13 tyX13_ok nmX13 hown hK hP hD hS q0 he (C := RX13) (T := TX13) (N := 20) rfl 10 (by decide) (hts _ q747) (fun x h => h) rfl (tyX13_ok 10 (by decide)) rfl rfl hl hd kk
theorem pf_14068 : pfOK RX13 68 14 14 19 0 0 := by
  intro p l e R s m args below meth c H locs cells slots Q pc ls rest D tys ws a q0 ci fs v A H0 hx hts hown hK hP hD hS he h1 h2 hin hv hl hd kk
  obtain ⟨x, rfl⟩ := hv
  obtain rfl : ci = 13 := by omega
  exact va_put hx rfl hts in_X13 tyX13 tyX13_ok nmX13 hown hK hP hD hS q0 he (C := RX13) (T := TX13) (N := 20) rfl 19 (by decide) (hts _ q761) (fun x h => h) rfl (tyX13_ok 19 (by decide)) rfl rfl hl hd kk
theorem pf_14080 : pfOK RX13 80 14 14 17 0 0 := by
  intro p l e R s m args below meth c H locs cells slots Q pc ls rest D tys ws a q0 ci fs v A H0 hx hts hown hK hP hD hS he h1 h2 hin hv hl hd kk
  obtain ⟨x, rfl⟩ := hv
  obtain rfl : ci = 13 := by omega
  exact va_put hx rfl hts in_X13 tyX13 tyX13_ok nmX13 hown hK hP hD hS q0 he (C := RX13) (T := TX13) (N := 20) rfl 17 (by decide) (hts _ q757) (fun x h => h) rfl (tyX13_ok 17 (by decide)) rfl rfl hl hd kk
theorem pf_15009 : pfOK RX14 9 15 15 1 2 1 := by
  intro p l e R s m args below meth c H locs cells slots Q pc ls rest D tys ws a q0 ci fs v A H0 hx hts hown hK hP hD hS he h1 h2 hin hv hl hd kk
  obtain ⟨x, rfl⟩ := hv
  obtain rfl : ci = 14 := by omega
  exact va_putF hx rfl hts in_X14 tyX14 tyX14_ok nmX14 hown hK hP hD hS q0 he (C := RX14) (T := TX14) (N := 32) rfl 1 (by decide) (hts _ q813) (fun x h => h) rfl (hin rfl) rfl (tyX14_ok 1 (by decide)) rfl rfl hl hd kk
theorem pf_15015 : pfOK RX14 15 15 15 3 2 1 := by
  intro p l e R s m args below meth c H locs cells slots Q pc ls rest D tys ws a q0 ci fs v A H0 hx hts hown hK hP hD hS he h1 h2 hin hv hl hd kk
  obtain ⟨x, rfl⟩ := hv
  obtain rfl : ci = 14 := by omega
  exact va_putF hx rfl hts in_X14 tyX14 tyX14_ok nmX14 hown hK hP hD hS q0 he (C := RX14) (T := TX14) (N := 32) rfl 3 (by decide) (hts _ q818) (fun x h => h) rfl (hin rfl) rfl (tyX14_ok 3 (by decide)) rfl rfl hl hd kk
theorem pf_15018 : pfOK RX14 18 15 15 4 2 1 := by
  intro p l e R s m args below meth c H locs cells slots Q pc ls rest D tys ws a q0 ci fs v A H0 hx hts hown hK hP hD hS he h1 h2 hin hv hl hd kk
  obtain ⟨x, rfl⟩ := hv
  obtain rfl : ci = 14 := by omega
  exact va_putF hx rfl hts in_X14 tyX14 tyX14_ok nmX14 hown hK hP hD hS q0 he (C := RX14) (T := TX14) (N := 32) rfl 4 (by decide) (hts _ q821) (fun x h => h) rfl (hin rfl) rfl (tyX14_ok 4 (by decide)) rfl rfl hl hd kk
theorem pf_15021 : pfOK RX14 21 15 15 5 2 1 := by
  intro p l e R s m args below meth c H locs cells slots Q pc ls rest D tys ws a q0 ci fs v A H0 hx hts hown hK hP hD hS he h1 h2 hin hv hl hd kk
  obtain ⟨x, rfl⟩ := hv
  obtain rfl : ci = 14 := by omega
  exact va_putF hx rfl hts in_X14 tyX14 tyX14_ok nmX14 hown hK hP hD hS q0 he (C := RX14) (T := TX14) (N := 32) rfl 5 (by decide) (hts _ q825) (fun x h => h) rfl (hin rfl) rfl (tyX14_ok 5 (by decide)) rfl rfl hl hd kk
theorem pf_15024 : pfOK RX14 24 15 15 6 2 1 := by
  intro p l e R s m args below meth c H locs cells slots Q pc ls rest D tys ws a q0 ci fs v A H0 hx hts hown hK hP hD hS he h1 h2 hin hv hl hd kk
  obtain ⟨x, rfl⟩ := hv
  obtain rfl : ci = 14 := by omega
  exact va_putF hx rfl hts in_X14 tyX14 tyX14_ok nmX14 hown hK hP hD hS q0 he (C := RX14) (T := TX14) (N := 32) rfl 6 (by decide) (hts _ q829) (fun x h => h) rfl (hin rfl) rfl (tyX14_ok 6 (by decide)) rfl rfl hl hd kk
theorem pf_15027 : pfOK RX14 27 15 15 8 2 1 := by
  intro p l e R s m args below meth c H locs cells slots Q pc ls rest D tys ws a q0 ci fs v A H0 hx hts hown hK hP hD hS he h1 h2 hin hv hl hd kk
  obtain ⟨x, rfl⟩ := hv
  obtain rfl : ci = 14 := by omega
  exact va_putF hx rfl hts in_X14 tyX14 tyX14_ok nmX14 hown hK hP hD hS q0 he (C := RX14) (T := TX14) (N := 32) rfl 8 (by decide) (hts _ q836) (fun x h => h) rfl (hin rfl) rfl (tyX14_ok 8 (by decide)) rfl rfl hl hd kk
theorem pf_15030 : pfOK RX14 30 15 15 9 2 1 := by
  intro p l e R s m args below meth c H locs cells slots Q pc ls rest D tys ws a q0 ci fs v A H0 hx hts hown hK hP hD hS he h1 h2 hin hv hl hd kk
  obtain ⟨x, rfl⟩ := hv
  obtain rfl : ci = 14 := by omega
  exact va_putF hx rfl hts in_X14 tyX14 tyX14_ok nmX14 hown hK hP hD hS q0 he (C := RX14) (T := TX14) (N := 32) rfl 9 (by decide) (hts _ q838) (fun x h => h) rfl (hin rfl) rfl (tyX14_ok 9 (by decide)) rfl rfl hl hd kk
theorem pf_15033 : pfOK RX14 33 15 15 10 2 1 := by
  intro p l e R s m args below meth c H locs cells slots Q pc ls rest D tys ws a q0 ci fs v A H0 hx hts hown hK hP hD hS he h1 h2 hin hv hl hd kk
  obtain ⟨x, rfl⟩ := hv
  obtain rfl : ci = 14 := by omega
  exact va_putF hx rfl hts in_X14 tyX14 tyX14_ok nmX14 hown hK hP hD hS q0 he (C := RX14) (T := TX14) (N := 32) rfl 10 (by decide) (hts _ q840) (fun x h => h) rfl (hin rfl) rfl (tyX14_ok 10 (by decide)) rfl rfl hl hd kk
theorem pf_15037 : pfOK RX14 37 15 15 11 2 1 := by
  intro p l e R s m args below meth c H locs cells slots Q pc ls rest D tys ws a q0 ci fs v A H0 hx hts hown hK hP hD hS he h1 h2 hin hv hl hd kk
  obtain ⟨x, rfl⟩ := hv
  obtain rfl : ci = 14 := by omega
  exact va_putF hx rfl hts in_X14 tyX14 tyX14_ok nmX14 hown hK hP hD hS q0 he (C := RX14) (T := TX14) (N := 32) rfl 11 (by decide) (hts _ q842) (fun x h => h) rfl (hin rfl) rfl (tyX14_ok 11 (by decide)) rfl rfl hl hd kk
theorem pf_15040 : pfOK RX14 40 15 15 12 2 1 := by
  intro p l e R s m args below meth c H locs cells slots Q pc ls rest D tys ws a q0 ci fs v A H0 hx hts hown hK hP hD hS he h1 h2 hin hv hl hd kk
  obtain ⟨x, rfl⟩ := hv
  obtain rfl : ci = 14 := by omega
  exact va_putF hx rfl hts in_X14 tyX14 tyX14_ok nmX14 hown hK hP hD hS q0 he (C := RX14) (T := TX14) (N := 32) rfl 12 (by decide) (hts _ q847) (fun x h => h) rfl (hin rfl) rfl (tyX14_ok 12 (by decide)) rfl rfl hl hd kk
theorem pf_15043 : pfOK RX14 43 15 15 13 2 1 := by
  intro p l e R s m args below meth c H locs cells slots Q pc ls rest D tys ws a q0 ci fs v A H0 hx hts hown hK hP hD hS he h1 h2 hin hv hl hd kk
  obtain ⟨x, rfl⟩ := hv
  obtain rfl : ci = 14 := by omega
  exact va_putF hx rfl hts in_X14 tyX14 tyX14_ok nmX14 hown hK hP hD hS q0 he (C := RX14) (T := TX14) (N := 32) rfl 13 (by decide) (hts _ q850) (fun x h => h) rfl (hin rfl) rfl (tyX14_ok 13 (by decide)) rfl rfl hl hd kk
theorem pf_15046 : pfOK RX14 46 15 15 14 2 1 := by
  intro p l e R s m args below meth c H locs cells slots Q pc ls rest D tys ws a q0 ci fs v A H0 hx hts hown hK hP hD hS he h1 h2 hin hv hl hd kk
  obtain ⟨x, rfl⟩ := hv
  obtain rfl : ci = 14 := by omega
  exact va_putF hx rfl hts in_X14 tyX14 tyX14_ok nmX14 hown hK hP hD hS q0 he (C := RX14) (T := TX14) (N := 32) rfl 14 (by decide) (hts _ q854) (fun x h => h) rfl (hin rfl) rfl (tyX14_ok 14 (by decide)) rfl rfl hl hd kk
theorem pf_15049 : pfOK RX14 49 15 15 15 2 1 := by
  intro p l e R s m args below meth c H locs cells slots Q pc ls rest D tys ws a q0 ci fs v A H0 hx hts hown hK hP hD hS he h1 h2 hin hv hl hd kk
  obtain ⟨x, rfl⟩ := hv
  obtain rfl : ci = 14 := by omega
  exact va_putF hx rfl hts in_X14 tyX14 tyX14_ok nmX14 hown hK hP hD hS q0 he (C := RX14) (T := TX14) (N := 32) rfl 15 (by decide) (hts _ q856) (fun x h => h) rfl (hin rfl) rfl (tyX14_ok 15 (by decide)) rfl rfl hl hd kk
theorem pf_15052 : pfOK RX14 52 15 15 16 2 1 := by
  intro p l e R s m args below meth c H locs cells slots Q pc ls rest D tys ws a q0 ci fs v A H0 hx hts hown hK hP hD hS he h1 h2 hin hv hl hd kk
  obtain ⟨x, rfl⟩ := hv
  obtain rfl : ci = 14 := by omega
  exact va_putF hx rfl hts in_X14 tyX14 tyX14_ok nmX14 hown hK hP hD hS q0 he (C := RX14) (T := TX14) (N := 32) rfl 16 (by decide) (hts _ q861) (fun x h => h) rfl (hin rfl) rfl (tyX14_ok 16 (by decide)) rfl rfl hl hd kk
theorem pf_15055 : pfOK RX14 55 15 15 18 2 1 := by
  intro p l e R s m args below meth c H locs cells slots Q pc ls rest D tys ws a q0 ci fs v A H0 hx hts hown hK hP hD hS he h1 h2 hin hv hl hd kk
  obtain ⟨x, rfl⟩ := hv
  obtain rfl : ci = 14 := by omega
  exact va_putF hx rfl hts in_X14 tyX14 tyX14_ok nmX14 hown hK hP hD hS q0 he (C := RX14) (T := TX14) (N := 32) rfl 18 (by decide) (hts _ q868) (fun x h => h) rfl (hin rfl) rfl (tyX14_ok 18 (by decide)) rfl rfl hl hd kk
theorem pf_15058 : pfOK RX14 58 15 15 19 2 1 := by
  intro p l e R s m args below meth c H locs cells slots Q pc ls rest D tys ws a q0 ci fs v A H0 hx hts hown hK hP hD hS he h1 h2 hin hv hl hd kk
  obtain ⟨x, rfl⟩ := hv
  obtain rfl : ci = 14 := by omega
  exact va_putF hx rfl hts in_X14 tyX14 tyX14_ok nmX14 hown hK hP hD hS q0 he (C := RX14) (T := TX14) (N := 32) rfl 19 (by decide) (hts _ q873) (fun x h => h) rfl (hin rfl) rfl (tyX14_ok 19 (by decide)) rfl rfl hl hd kk
theorem pf_15061 : pfOK RX14 61 15 15 20 2 1 := by
  intro p l e R s m args below meth c H locs cells slots Q pc ls rest D tys ws a q0 ci fs v A H0 hx hts hown hK hP hD hS he h1 h2 hin hv hl hd kk
  obtain ⟨x, rfl⟩ := hv
  obtain rfl : ci = 14 := by omega
  exact va_putF hx rfl hts in_X14 tyX14 tyX14_ok nmX14 hown hK hP hD hS q0 he (C := RX14) (T := TX14) (N := 32) rfl 20 (by decide) (hts _ q878) (fun x h => h) rfl (hin rfl) rfl (tyX14_ok 20 (by decide)) rfl rfl hl hd kk
theorem pf_15064 : pfOK RX14 64 15 15 21 2 1 := by
  intro p l e R s m args below meth c H locs cells slots Q pc ls rest D tys ws a q0 ci fs v A H0 hx hts hown hK hP hD hS he h1 h2 hin hv hl hd kk
  obtain ⟨x, rfl⟩ := hv
  obtain rfl : ci = 14 := by omega
  exact va_putF hx rfl hts in_X14 tyX14 tyX14_ok nmX14 hown hK hP hD hS q0 he (C := RX14) (T := TX14) (N := 32) rfl 21 (by decide) (hts _ q883) (fun x h => h) rfl (hin rfl) rfl (tyX14_ok 21 (by decide)) rfl rfl hl hd kk
theorem pf_15067 : pfOK RX14 67 15 15 22 2 1 := by
  intro p l e R s m args below meth c H locs cells slots Q pc ls rest D tys ws a q0 ci fs v A H0 hx hts hown hK hP hD hS he h1 h2 hin hv hl hd kk
  obtain ⟨x, rfl⟩ := hv
  obtain rfl : ci = 14 := by omega
  exact va_putF hx rfl hts in_X14 tyX14 tyX14_ok nmX14 hown hK hP hD hS q0 he (C := RX14) (T := TX14) (N := 32) rfl 22 (by decide) (hts _ q886) (fun x h => h) rfl (hin rfl) rfl (tyX14_ok 22 (by decide)) rfl rfl hl hd kk
theorem pf_15070 : pfOK RX14 70 15 15 23 2 1 := by
  intro p l e R s m args below meth c H locs cells slots Q pc ls rest D tys ws a q0 ci fs v A H0 hx hts hown hK hP hD hS he h1 h2 hin hv hl hd kk
  obtain ⟨x, rfl⟩ := hv
  obtain rfl : ci = 14 := by omega
  exact va_putF hx rfl hts in_X14 tyX14 tyX14_ok nmX14 hown hK hP hD hS q0 he (C := RX14) (T := TX14) (N := 32) rfl 23 (by decide) (hts _ q890) (fun x h => h) rfl (hin rfl) rfl (tyX14_ok 23 (by decide)) rfl rfl hl hd kk
theorem pf_15073 : pfOK RX14 73 15 15 25 2 1 := by
  intro p l e R s m args below meth c H locs cells slots Q pc ls rest D tys ws a q0 ci fs v A H0 hx hts hown hK hP hD hS he h1 h2 hin hv hl hd kk
  obtain ⟨x, rfl⟩ := hv
  obtain rfl : ci = 14 := by omega
  exact va_putF hx rfl hts in_X14 tyX14 tyX14_ok nmX14 hown hK hP hD hS q0 he (C := RX14) (T := TX14) (N := 32) rfl 25 (by decide) (hts _ q898) (fun x h => h) rfl (hin rfl) rfl (tyX14_ok 25 (by decide)) rfl rfl hl hd kk
theorem pf_15076 : pfOK RX14 76 15 15 27 2 1 := by
  intro p l e R s m args below meth c H locs cells slots Q pc ls rest D tys ws a q0 ci fs v A H0 hx hts hown hK hP hD hS he h1 h2 hin hv hl hd kk
  obtain ⟨x, rfl⟩ := hv
  obtain rfl : ci = 14 := by omega
  exact va_putF hx rfl hts in_X14 tyX14 tyX14_ok nmX14 hown hK hP hD hS q0 he (C := RX14) (T := TX14) (N := 32) rfl 27 (by decide) (hts _ q908) (fun x h => h) rfl (hin rfl) rfl (tyX14_ok 27 (by decide)) rfl rfl hl hd kk
theorem pf_15079 : pfOK RX14 79 15 15 28 2 1 := by
  intro p l e R s m args below meth c H locs cells slots Q pc ls rest D tys ws a q0 ci fs v A H0 hx hts hown hK hP hD hS he h1 h2 hin hv hl hd kk
  obtain ⟨x, rfl⟩ := hv
  obtain rfl : ci = 14 := by omega
  exact va_putF hx rfl hts in_X14 tyX14 tyX14_ok nmX14 hown hK hP hD hS q0 he (C := RX14) (T := TX14) (N := 32) rfl 28 (by decide) (hts _ q913) (fun x h => h) rfl (hin rfl) rfl (tyX14_ok 28 (by decide)) rfl rfl hl hd kk
theorem pf_15082 : pfOK RX14 82 15 15 29 2 1 := by
  intro p l e R s m args below meth c H locs cells slots Q pc ls rest D tys ws a q0 ci fs v A H0 hx hts hown hK hP hD hS he h1 h2 hin hv hl hd kk
  obtain ⟨x, rfl⟩ := hv
  obtain rfl : ci = 14 := by omega
  exact va_putF hx rfl hts in_X14 tyX14 tyX14_ok nmX14 hown hK hP hD hS q0 he (C := RX14) (T := TX14) (N := 32) rfl 29 (by decide) (hts _ q918) (fun x h => h) rfl (hin rfl) rfl (tyX14_ok 29 (by decide)) rfl rfl hl hd kk
theorem pf_15085 : pfOK RX14 85 15 15 30 2 1 := by
  intro p l e R s m args below meth c H locs cells slots Q pc ls rest D tys ws a q0 ci fs v A H0 hx hts hown hK hP hD hS he h1 h2 hin hv hl hd kk
  obtain ⟨x, rfl⟩ := hv
  obtain rfl : ci = 14 := by omega
  exact va_putF hx rfl hts in_X14 tyX14 tyX14_ok nmX14 hown hK hP hD hS q0 he (C := RX14) (T := TX14) (N := 32) rfl 30 (by decide) (hts _ q923) (fun x h => h) rfl (hin rfl) rfl (tyX14_ok 30 (by decide)) rfl rfl hl hd kk
theorem pf_15088 : pfOK RX14 88 15 15 0 0 0 := by
  intro p l e R s m args below meth c H locs cells slots Q pc ls rest D tys ws a q0 ci fs v A H0 hx hts hown hK hP hD hS he h1 h2 hin hv hl hd kk
  obtain ⟨x, rfl⟩ := hv
  obtain rfl : ci = 14 := by omega
  exact va_put hx rfl hts in_X14 tyX14 tyX14_ok nmX14 hown hK hP hD hS q0 he (C := RX14) (T := TX14) (N := 32) rfl 0 (by decide) (hts _ q809) (fun x h => h) rfl (tyX14_ok 0 (by decide)) rfl rfl hl hd kk
theorem pf_15092 : pfOK RX14 92 15 15 2 0 0 := by
  intro p l e R s m args below meth c H locs cells slots Q pc ls rest D tys ws a q0 ci fs v A H0 hx hts hown hK hP hD hS he h1 h2 hin hv hl hd kk
  obtain ⟨x, rfl⟩ := hv
  obtain rfl : ci = 14 := by omega
  exact va_put hx rfl hts in_X14 tyX14 tyX14_ok nmX14 hown hK hP hD hS q0 he (C := RX14) (T := TX14) (N := 32) rfl 2 (by decide) (hts _ q815) (fun x h => h) rfl (tyX14_ok 2 (by decide)) rfl rfl hl hd kk
theorem pf_15095 : pfOK RX14 95 15 15 7 0 0 := by
  intro p l e R s m args below meth c H locs cells slots Q pc ls rest D tys ws a q0 ci fs v A H0 hx hts hown hK hP hD hS he h1 h2 hin hv hl hd kk
  obtain ⟨x, rfl⟩ := hv
  obtain rfl : ci = 14 := by omega
  exact va_put hx rfl hts in_X14 tyX14 tyX14_ok nmX14 hown hK hP hD hS q0 he (C := RX14) (T := TX14) (N := 32) rfl 7 (by decide) (hts _ q833) (fun x h => h) rfl (tyX14_ok 7 (by decide)) rfl rfl hl hd kk
theorem pf_15098 : pfOK RX14 98 15 15 17 0 0 := by
  intro p l e R s m args below meth c H locs cells slots Q pc ls rest D tys ws a q0 ci fs v A H0 hx hts hown hK hP hD hS he h1 h2 hin hv hl hd kk
  obtain ⟨x, rfl⟩ := hv
  obtain rfl : ci = 14 := by omega
  exact va_put hx rfl hts in_X14 tyX14 tyX14_ok nmX14 hown hK hP hD hS q0 he (C := RX14) (T := TX14) (N := 32) rfl 17 (by decide) (hts _ q864) (fun x h => h) rfl (tyX14_ok 17 (by decide)) rfl rfl hl hd kk
theorem pf_15101 : pfOK RX14 101 15 15 24 0 0 := by
  intro p l e R s m args below meth c H locs cells slots Q pc ls rest D tys ws a q0 ci fs v A H0 hx hts hown hK hP hD hS he h1 h2 hin hv hl hd kk
  obtain ⟨x, rfl⟩ := hv
  obtain rfl : ci = 14 := by omega
  exact va_put hx rfl hts in_X14 tyX14 tyX14_ok nmX14 hown hK hP hD hS q0 he (C := RX14) (T := TX14) (N := 32) rfl 24 (by decide) (hts _ q894) (fun x h => h) rfl (tyX14_ok 24 (by decide)) rfl rfl hl hd kk
theorem pf_15104 : pfOK RX14 104 15 15 26 0 0 := by
  intro p l e R s m args below meth c H locs cells slots Q pc ls rest D tys ws a q0 ci fs v A H0 hx hts hown hK hP hD hS he h1 h2 hin hv hl hd kk
  obtain ⟨x, rfl⟩ := hv
  obtain rfl : ci = 14 := by omega
  exact va_put hx rfl hts in_X14 tyX14 tyX14_ok nmX14 hown hK hP hD hS q0 he (C := RX14) (T := TX14) (N := 32) rfl 26 (by decide) (hts _ q904) (fun x h => h) rfl (tyX14_ok 26 (by decide)) rfl rfl hl hd kk
theorem pf_15107 : pfOK RX14 107 15 15 31 0 0 := by
  intro p l e R s m args below meth c H locs cells slots Q pc ls rest D tys ws a q0 ci fs v A H0 hx hts hown hK hP hD hS he h1 h2 hin hv hl hd kk
  obtain ⟨x, rfl⟩ := hv
  obtain rfl : ci = 14 := by omega
  exact va_put hx rfl hts in_X14 tyX14 tyX14_ok nmX14 hown hK hP hD hS q0 he (C := RX14) (T := TX14) (N := 32) rfl 31 (by decide) (hts _ q930) (fun x h => h) rfl (tyX14_ok 31 (by decide)) rfl rfl hl hd kk
theorem pf_16012 : pfOK RX15 12 16 16 0 2 0 := by
  intro p l e R s m args below meth c H locs cells slots Q pc ls rest D tys ws a q0 ci fs v A H0 hx hts hown hK hP hD hS he h1 h2 hin hv hl hd kk
  obtain ⟨x, rfl⟩ := hv
  obtain rfl : ci = 15 := by omega
  exact va_put hx rfl hts in_X15 tyX15 tyX15_ok nmX15 hown hK hP hD hS q0 he (C := RX15) (T := TX15) (N := 64) rfl 0 (by decide) (hts _ q2280) (fun x h => h) rfl (tyX15_ok 0 (by decide)) rfl rfl hl hd kk
theorem pf_16016 : pfOK RX15 16 16 16 1 2 0 := by
  intro p l e R s m args below meth c H locs cells slots Q pc ls rest D tys ws a q0 ci fs v A H0 hx hts hown hK hP hD hS he h1 h2 hin hv hl hd kk
  obtain ⟨x, rfl⟩ := hv
  obtain rfl : ci = 15 := by omega
  exact va_put hx rfl hts in_X15 tyX15 tyX15_ok nmX15 hown hK hP hD hS q0 he (C := RX15) (T := TX15) (N := 64) rfl 1 (by decide) (hts _ q2281) (fun x h => h) rfl (tyX15_ok 1 (by decide)) rfl rfl hl hd kk
theorem pf_16019 : pfOK RX15 19 16 16 3 2 1 := by
  intro p l e R s m args below meth c H locs cells slots Q pc ls rest D tys ws a q0 ci fs v A H0 hx hts hown hK hP hD hS he h1 h2 hin hv hl hd kk
  obtain ⟨x, rfl⟩ := hv
  obtain rfl : ci = 15 := by omega
  exact va_putF hx rfl hts in_X15 tyX15 tyX15_ok nmX15 hown hK hP hD hS q0 he (C := RX15) (T := TX15) (N := 64) rfl 3 (by decide) (hts _ q2283) (fun x h => h) rfl (hin rfl) rfl (tyX15_ok 3 (by decide)) rfl rfl hl hd kk
theorem pf_16023 : pfOK RX15 23 16 16 6 2 1 := by
  intro p l e R s m args below meth c H locs cells slots Q pc ls rest D tys ws a q0 ci fs v A H0 hx hts hown hK hP hD hS he h1 h2 hin hv hl hd kk
  obtain ⟨x, rfl⟩ := hv
  obtain rfl : ci = 15 := by omega
  exact va_putF hx rfl hts in_X15 tyX15 tyX15_ok nmX15 hown hK hP hD hS q0 he (C := RX15) (T := TX15) (N := 64) rfl 6 (by decide) (hts _ q2286) (fun x h => h) rfl (hin rfl) rfl (tyX15_ok 6 (by decide)) rfl rfl hl hd kk
theorem pf_16026 : pfOK RX15 26 16 16 8 2 1 := by
  intro p l e R s m args below meth c H locs cells slots Q pc ls rest D tys ws a q0 ci fs v A H0 hx hts hown hK hP hD hS he h1 h2 hin hv hl hd kk
  obtain ⟨x, rfl⟩ := hv
  obtain rfl : ci = 15 := by omega
  exact va_putF hx rfl hts in_X15 tyX15 tyX15_ok nmX15 hown hK hP hD hS q0 he (C := RX15) (T := TX15) (N := 64) rfl 8 (by decide) (hts _ q2288) (fun x h => h) rfl (hin rfl) rfl (tyX15_ok 8 (by decide)) rfl rfl hl hd kk
theorem pf_16030 : pfOK RX15 30 16 16 9 2 1 := by
  intro p l e R s m args below meth c H locs cells slots Q pc ls rest D tys ws a q0 ci fs v A H0 hx hts hown hK hP hD hS he h1 h2 hin hv hl hd kk
  obtain ⟨x, rfl⟩ := hv
  obtain rfl : ci = 15 := by omega
  exact va_putF hx rfl hts in_X15 tyX15 tyX15_ok nmX15 hown hK hP hD hS q0 he (C := RX15) (T := TX15) (N := 64) rfl 9 (by decide) (hts _ q2289) (fun x h => h) rfl (hin rfl) rfl (tyX15_ok 9 (by decide)) rfl rfl hl hd kk
theorem pf_16033 : pfOK RX15 33 16 16 12 0 0 := by
  intro p l e R s m args below meth c H locs cells slots Q pc ls rest D tys ws a q0 ci fs v A H0 hx hts hown hK hP hD hS he h1 h2 hin hv hl hd kk
  obtain ⟨x, rfl⟩ := hv
  obtain rfl : ci = 15 := by omega
  exact va_put hx rfl hts in_X15 tyX15 tyX15_ok nmX15 hown hK hP hD hS q0 he (C := RX15) (T := TX15) (N := 64) rfl 12 (by decide) (hts _ q2292) (fun x h => h) rfl (tyX15_ok 12 (by decide)) rfl rfl hl hd kk
theorem pf_16037 : pfOK RX15 37 16 16 13 2 1 := by
  intro p l e R s m args below meth c H locs cells slots Q pc ls rest D tys ws a q0 ci fs v A H0 hx hts hown hK hP hD hS he h1 h2 hin hv hl hd kk
  obtain ⟨x, rfl⟩ := hv
  obtain rfl : ci = 15 := by omega
  exact va_putF hx rfl hts in_X15 tyX15 tyX15_ok nmX15 hown hK hP hD hS q0 he (C := RX15) (T := TX15) (N := 64) rfl 13 (by decide) (hts _ q2293) (fun x h => h) rfl (hin rfl) rfl (tyX15_ok 13 (by decide)) rfl rfl hl hd kk
theorem pf_16040 : pfOK RX15 40 16 16 14 2 1 := by
  intro p l e R s m args below meth c H locs cells slots Q pc ls rest D tys ws a q0 ci fs v A H0 hx hts hown hK hP hD hS he h1 h2 hin hv hl hd kk
  obtain ⟨x, rfl⟩ := hv
  obtain rfl : ci = 15 := by omega
  exact va_putF hx rfl hts in_X15 tyX15 tyX15_ok nmX15 hown hK hP hD hS q0 he (C := RX15) (T := TX15) (N := 64) rfl 14 (by decide) (hts _ q2294) (fun x h => h) rfl (hin rfl) rfl (tyX15_ok 14 (by decide)) rfl rfl hl hd kk
theorem pf_16043 : pfOK RX15 43 16 16 15 2 1 := by
  intro p l e R s m args below meth c H locs cells slots Q pc ls rest D tys ws a q0 ci fs v A H0 hx hts hown hK hP hD hS he h1 h2 hin hv hl hd kk
  obtain ⟨x, rfl⟩ := hv
  obtain rfl : ci = 15 := by omega
  exact va_putF hx rfl hts in_X15 tyX15 tyX15_ok nmX15 hown hK hP hD hS q0 he (C := RX15) (T := TX15) (N := 64) rfl 15 (by decide) (hts _ q2295) (fun x h => h) rfl (hin rfl) rfl (tyX15_ok 15 (by decide)) rfl rfl hl hd kk
theorem pf_16046 : pfOK RX15 46 16 16 16 2 1 := by
  intro p l e R s m args below meth c H locs cells slots Q pc ls rest D tys ws a q0 ci fs v A H0 hx hts hown hK hP hD hS he h1 h2 hin hv hl hd kk
  obtain ⟨x, rfl⟩ := hv
  obtain rfl : ci = 15 := by omega
  exact va_putF hx rfl hts in_X15 tyX15 tyX15_ok nmX15 hown hK hP hD hS q0 he (C := RX15) (T := TX15) (N := 64) rfl 16 (by decide) (hts _ q2296) (fun x h => h) rfl (hin rfl) rfl (tyX15_ok 16 (by decide)) rfl rfl hl hd kk
theorem pf_16049 : pfOK RX15 49 16 16 17 2 1 := by
  intro p l e R s m args below meth c H locs cells slots Q pc ls rest D tys ws a q0 ci fs v A H0 hx hts hown hK hP hD hS he h1 h2 hin hv hl hd kk
  obtain ⟨x, rfl⟩ := hv
  obtain rfl : ci = 15 := by omega
  exact va_putF hx rfl hts in_X15 tyX15 tyX15_ok nmX15 hown hK hP hD hS q0 he (C := RX15) (T := TX15) (N := 64) rfl 17 (by decide) (hts _ q2297) (fun x h => h) rfl (hin rfl) rfl (tyX15_ok 17 (by decide)) rfl rfl hl hd kk
theorem pf_16052 : pfOK RX15 52 16 16 18 2 1 := by
  intro p l e R s m args below meth c H locs cells slots Q pc ls rest D tys ws a q0 ci fs v A H0 hx hts hown hK hP hD hS he h1 h2 hin hv hl hd kk
  obtain ⟨x, rfl⟩ := hv
  obtain rfl : ci = 15 := by omega
  exact va_putF hx rfl hts in_X15 tyX15 tyX15_ok nmX15 hown hK hP hD hS q0 he (C := RX15) (T := TX15) (N := 64) rfl 18 (by decide) (hts _ q2298) (fun x h => h) rfl (hin rfl) rfl (tyX15_ok 18 (by decide)) rfl rfl hl hd kk
theorem pf_16055 : pfOK RX15 55 16 16 20 2 1 := by
  intro p l e R s m args below meth c H locs cells slots Q pc ls rest D tys ws a q0 ci fs v A H0 hx hts hown hK hP hD hS he h1 h2 hin hv hl hd kk
  obtain ⟨x, rfl⟩ := hv
  obtain rfl : ci = 15 := by omega
  exact va_putF hx rfl hts in_X15 tyX15 tyX15_ok nmX15 hown hK hP hD hS q0 he (C := RX15) (T := TX15) (N := 64) rfl 20 (by decide) (hts _ q2300) (fun x h => h) rfl (hin rfl) rfl (tyX15_ok 20 (by decide)) rfl rfl hl hd kk
theorem pf_16058 : pfOK RX15 58 16 16 21 2 1 := by
  intro p l e R s m args below meth c H locs cells slots Q pc ls rest D tys ws a q0 ci fs v A H0 hx hts hown hK hP hD hS he h1 h2 hin hv hl hd kk
  obtain ⟨x, rfl⟩ := hv
  obtain rfl : ci = 15 := by omega
  exact va_putF hx rfl hts in_X15 tyX15 tyX15_ok nmX15 hown hK hP hD hS q0 he (C := RX15) (T := TX15) (N := 64) rfl 21 (by decide) (hts _ q2301) (fun x h => h) rfl (hin rfl) rfl (tyX15_ok 21 (by decide)) rfl rfl hl hd kk
theorem pf_16061 : pfOK RX15 61 16 16 22 2 1 := by
  intro p l e R s m args below meth c H locs cells slots Q pc ls rest D tys ws a q0 ci fs v A H0 hx hts hown hK hP hD hS he h1 h2 hin hv hl hd kk
  obtain ⟨x, rfl⟩ := hv
  obtain rfl : ci = 15 := by omega
  exact va_putF hx rfl hts in_X15 tyX15 tyX15_ok nmX15 hown hK hP hD hS q0 he (C := RX15) (T := TX15) (N := 64) rfl 22 (by decide) (hts _ q2302) (fun x h => h) rfl (hin rfl) rfl (tyX15_ok 22 (by decide)) rfl rfl hl hd kk
theorem pf_16065 : pfOK RX15 65 16 16 23 2 1 := by
  intro p l e R s m args below meth c H locs cells slots Q pc ls rest D tys ws a q0 ci fs v A H0 hx hts hown hK hP hD hS he h1 h2 hin hv hl hd kk
  obtain ⟨x, rfl⟩ := hv
  obtain rfl : ci = 15 := by omega
  exact va_putF hx rfl hts in_X15 tyX15 tyX15_ok nmX15 hown hK hP hD hS q0 he (C := RX15) (T := TX15) (N := 64) rfl 23 (by decide) (hts _ q2303) (fun x h => h) rfl (hin rfl) rfl (tyX15_ok 23 (by decide)) rfl rfl hl hd kk
theorem pf_16068 : pfOK RX15 68 16 16 24 2 1 := by
  intro p l e R s m args below meth c H locs cells slots Q pc ls rest D tys ws a q0 ci fs v A H0 hx hts hown hK hP hD hS he h1 h2 hin hv hl hd kk
  obtain ⟨x, rfl⟩ := hv
  obtain rfl : ci = 15 := by omega
  exact va_putF hx rfl hts in_X15 tyX15 tyX15_ok nmX15 hown hK hP hD hS q0 he (C := RX15) (T := TX15) (N := 64) rfl 24 (by decide) (hts _ q2304) (fun x h => h) rfl (hin rfl) rfl (tyX15_ok 24 (by decide)) rfl rfl hl hd kk
theorem pf_16071 : pfOK RX15 71 16 16 26 2 1 := by
  intro p l e R s m args below meth c H locs cells slots Q pc ls rest D tys ws a q0 ci fs v A H0 hx hts hown hK hP hD hS he h1 h2 hin hv hl hd kk
  obtain ⟨x, rfl⟩ := hv
  obtain rfl : ci = 15 := by omega
  exact va_putF hx rfl hts in_X15 tyX15 tyX15_ok nmX15 hown hK hP hD hS q0 he (C := RX15) (T := TX15) (N := 64) rfl 26 (by decide) (hts _ q2306) (fun x h => h) rfl (hin rfl) rfl (tyX15_ok 26 (by decide)) rfl rfl hl hd kk
theorem pf_16074 : pfOK RX15 74 16 16 27 2 1 := by
  intro p l e R s m args below meth c H locs cells slots Q pc ls rest D tys ws a q0 ci fs v A H0 hx hts hown hK hP hD hS he h1 h2 hin hv hl hd kk
  obtain ⟨x, rfl⟩ := hv
  obtain rfl : ci = 15 := by omega
  exact va_putF hx rfl hts in_X15 tyX15 tyX15_ok nmX15 hown hK hP hD hS q0 he (C := RX15) (T := TX15) (N := 64) rfl 27 (by decide) (hts _ q2307) (fun x h => h) rfl (hin rfl) rfl (tyX15_ok 27 (by decide)) rfl rfl hl hd kk
theorem pf_16077 : pfOK RX15 77 16 16 28 2 1 := by
  intro p l e R s m args below meth c H locs cells slots Q pc ls rest D tys ws a q0 ci fs v A H0 hx hts hown hK hP hD hS he h1 h2 hin hv hl hd kk
  obtain ⟨x, rfl⟩ := hv
  obtain rfl : ci = 15 := by omega
  exact va_putF hx rfl hts in_X15 tyX15 tyX15_ok nmX15 hown hK hP hD hS q0 he (C := RX15) (T := TX15) (N := 64) rfl 28 (by decide) (hts _ q2308) (fun x h => h) rfl (hin rfl) rfl (tyX15_ok 28 (by decide)) rfl rfl hl hd kk
theorem pf_16080 : pfOK RX15 80 16 16 29 2 1 := by
  intro p l e R s m args below meth c H locs cells slots Q pc ls rest D tys ws a q0 ci fs v A H0 hx hts hown hK hP hD hS he h1 h2 hin hv hl hd kk
  obtain ⟨x, rfl⟩ := hv
  obtain rfl : ci = 15 := by omega
  exact va_putF hx rfl hts in_X15 tyX15 tyX15_ok nmX15 hown hK hP hD hS q0 he (C := RX15) (T := TX15) (N := 64) rfl 29 (by decide) (hts _ q2309) (fun x h => h) rfl (hin rfl) rfl (tyX15_ok 29 (by decide)) rfl rfl hl hd kk
theorem pf_16084 : pfOK RX15 84 16 16 30 2 1 := by
  intro p l e R s m args below meth c H locs cells slots Q pc ls rest D tys ws a q0 ci fs v A H0 hx hts hown hK hP hD hS he h1 h2 hin hv hl hd kk
  obtain ⟨x, rfl⟩ := hv
  obtain rfl : ci = 15 := by omega
  exact va_putF hx rfl hts in_X15 tyX15 tyX15_ok nmX15 hown hK hP hD hS q0 he (C := RX15) (T := TX15) (N := 64) rfl 30 (by decide) (hts _ q2310) (fun x h => h) rfl (hin rfl) rfl (tyX15_ok 30 (by decide)) rfl rfl hl hd kk
theorem pf_16087 : pfOK RX15 87 16 16 31 2 1 := by
  intro p l e R s m args below meth c H locs cells slots Q pc ls rest D tys ws a q0 ci fs v A H0 hx hts hown hK hP hD hS he h1 h2 hin hv hl hd kk
  obtain ⟨x, rfl⟩ := hv
  obtain rfl : ci = 15 := by omega
  exact va_putF hx rfl hts in_X15 tyX15 tyX15_ok nmX15 hown hK hP hD hS q0 he (C := RX15) (T := TX15) (N := 64) rfl 31 (by decide) (hts _ q2311) (fun x h => h) rfl (hin rfl) rfl (tyX15_ok 31 (by decide)) rfl rfl hl hd kk
theorem pf_16090 : pfOK RX15 90 16 16 32 2 1 := by
  intro p l e R s m args below meth c H locs cells slots Q pc ls rest D tys ws a q0 ci fs v A H0 hx hts hown hK hP hD hS he h1 h2 hin hv hl hd kk
  obtain ⟨x, rfl⟩ := hv
  obtain rfl : ci = 15 := by omega
  exact va_putF hx rfl hts in_X15 tyX15 tyX15_ok nmX15 hown hK hP hD hS q0 he (C := RX15) (T := TX15) (N := 64) rfl 32 (by decide) (hts _ q2312) (fun x h => h) rfl (hin rfl) rfl (tyX15_ok 32 (by decide)) rfl rfl hl hd kk
theorem pf_16093 : pfOK RX15 93 16 16 33 2 1 := by
  intro p l e R s m args below meth c H locs cells slots Q pc ls rest D tys ws a q0 ci fs v A H0 hx hts hown hK hP hD hS he h1 h2 hin hv hl hd kk
  obtain ⟨x, rfl⟩ := hv
  obtain rfl : ci = 15 := by omega
  exact va_putF hx rfl hts in_X15 tyX15 tyX15_ok nmX15 hown hK hP hD hS q0 he (C := RX15) (T := TX15) (N := 64) rfl 33 (by decide) (hts _ q2313) (fun x h => h) rfl (hin rfl) rfl (tyX15_ok 33 (by decide)) rfl rfl hl hd kk
theorem pf_16096 : pfOK RX15 96 16 16 34 2 1 := by
  intro p l e R s m args below meth c H locs cells slots Q pc ls rest D tys ws a q0 ci fs v A H0 hx hts hown hK hP hD hS he h1 h2 hin hv hl hd kk
  obtain ⟨x, rfl⟩ := hv
  obtain rfl : ci = 15 := by omega
  exact va_putF hx rfl hts in_X15 tyX15 tyX15_ok nmX15 hown hK hP hD hS q0 he (C := RX15) (T := TX15) (N := 64) rfl 34 (by decide) (hts _ q2314) (fun x h => h) rfl (hin rfl) rfl (tyX15_ok 34 (by decide)) rfl rfl hl hd kk
theorem pf_16099 : pfOK RX15 99 16 16 35 2 1 := by
  intro p l e R s m args below meth c H locs cells slots Q pc ls rest D tys ws a q0 ci fs v A H0 hx hts hown hK hP hD hS he h1 h2 hin hv hl hd kk
  obtain ⟨x, rfl⟩ := hv
  obtain rfl : ci = 15 := by omega
  exact va_putF hx rfl hts in_X15 tyX15 tyX15_ok nmX15 hown hK hP hD hS q0 he (C := RX15) (T := TX15) (N := 64) rfl 35 (by decide) (hts _ q2315) (fun x h => h) rfl (hin rfl) rfl (tyX15_ok 35 (by decide)) rfl rfl hl hd kk
theorem pf_16102 : pfOK RX15 102 16 16 41 2 1 := by
  intro p l e R s m args below meth c H locs cells slots Q pc ls rest D tys ws a q0 ci fs v A H0 hx hts hown hK hP hD hS he h1 h2 hin hv hl hd kk
  obtain ⟨x, rfl⟩ := hv
  obtain rfl : ci = 15 := by omega
  exact va_putF hx rfl hts in_X15 tyX15 tyX15_ok nmX15 hown hK hP hD hS q0 he (C := RX15) (T := TX15) (N := 64) rfl 41 (by decide) (hts _ q2321) (fun x h => h) rfl (hin rfl) rfl (tyX15_ok 41 (by decide)) rfl rfl hl hd kk
theorem pf_16105 : pfOK RX15 105 16 16 42 2 1 := by
  intro p l e R s m args below meth c H locs cells slots Q pc ls rest D tys ws a q0 ci fs v A H0 hx hts hown hK hP hD hS he h1 h2 hin hv hl hd kk
  obtain ⟨x, rfl⟩ := hv
  obtain rfl : ci = 15 := by omega
  exact va_putF hx rfl hts in_X15 tyX15 tyX15_ok nmX15 hown hK hP hD hS q0 he (C := RX15) (T := TX15) (N := 64) rfl 42 (by decide) (hts _ q2322) (fun x h => h) rfl (hin rfl) rfl (tyX15_ok 42 (by decide)) rfl rfl hl hd kk
theorem pf_16108 : pfOK RX15 108 16 16 43 2 1 := by
  intro p l e R s m args below meth c H locs cells slots Q pc ls rest D tys ws a q0 ci fs v A H0 hx hts hown hK hP hD hS he h1 h2 hin hv hl hd kk
  obtain ⟨x, rfl⟩ := hv
  obtain rfl : ci = 15 := by omega
  exact va_putF hx rfl hts in_X15 tyX15 tyX15_ok nmX15 hown hK hP hD hS q0 he (C := RX15) (T := TX15) (N := 64) rfl 43 (by decide) (hts _ q2323) (fun x h => h) rfl (hin rfl) rfl (tyX15_ok 43 (by decide)) rfl rfl hl hd kk
theorem pf_16111 : pfOK RX15 111 16 16 44 2 1 := by
  intro p l e R s m args below meth c H locs cells slots Q pc ls rest D tys ws a q0 ci fs v A H0 hx hts hown hK hP hD hS he h1 h2 hin hv hl hd kk
  obtain ⟨x, rfl⟩ := hv
  obtain rfl : ci = 15 := by omega
  exact va_putF hx rfl hts in_X15 tyX15 tyX15_ok nmX15 hown hK hP hD hS q0 he (C := RX15) (T := TX15) (N := 64) rfl 44 (by decide) (hts _ q2324) (fun x h => h) rfl (hin rfl) rfl (tyX15_ok 44 (by decide)) rfl rfl hl hd kk
theorem pf_16114 : pfOK RX15 114 16 16 45 2 1 := by
  intro p l e R s m args below meth c H locs cells slots Q pc ls rest D tys ws a q0 ci fs v A H0 hx hts hown hK hP hD hS he h1 h2 hin hv hl hd kk
  obtain ⟨x, rfl⟩ := hv
  obtain rfl : ci = 15 := by omega
  exact va_putF hx rfl hts in_X15 tyX15 tyX15_ok nmX15 hown hK hP hD hS q0 he (C := RX15) (T := TX15) (N := 64) rfl 45 (by decide) (hts _ q2325) (fun x h => h) rfl (hin rfl) rfl (tyX15_ok 45 (by decide)) rfl rfl hl hd kk
theorem pf_16117 : pfOK RX15 117 16 16 46 2 1 := by
  intro p l e R s m args below meth c H locs cells slots Q pc ls rest D tys ws a q0 ci fs v A H0 hx hts hown hK hP hD hS he h1 h2 hin hv hl hd kk
  obtain ⟨x, rfl⟩ := hv
  obtain rfl : ci = 15 := by omega
  exact va_putF hx rfl hts in_X15 tyX15 tyX15_ok nmX15 hown hK hP hD hS q0 he (C := RX15) (T := TX15) (N := 64) rfl 46 (by decide) (hts _ q2326) (fun x h => h) rfl (hin rfl) rfl (tyX15_ok 46 (by decide)) rfl rfl hl hd kk
theorem pf_16120 : pfOK RX15 120 16 16 47 2 1 := by
  intro p l e R s m args below meth c H locs cells slots Q pc ls rest D tys ws a q0 ci fs v A H0 hx hts hown hK hP hD hS he h1 h2 hin hv hl hd kk
  obtain ⟨x, rfl⟩ := hv
  obtain rfl : ci = 15 := by omega
  exact va_putF hx rfl hts in_X15 tyX15 tyX15_ok nmX15 hown hK hP hD hS q0 he (C := RX15) (T := TX15) (N := 64) rfl 47 (by decide) (hts _ q2327) (fun x h => h) rfl (hin rfl) rfl (tyX15_ok 47 (by decide)) rfl rfl hl hd kk
theorem pf_16123 : pfOK RX15 123 16 16 48 2 1 := by
  intro p l e R s m args below meth c H locs cells slots Q pc ls rest D tys ws a q0 ci fs v A H0 hx hts hown hK hP hD hS he h1 h2 hin hv hl hd kk
  obtain ⟨x, rfl⟩ := hv
  obtain rfl : ci = 15 := by omega
  exact va_putF hx rfl hts in_X15 tyX15 tyX15_ok nmX15 hown hK hP hD hS q0 he (C := RX15) (T := TX15) (N := 64) rfl 48 (by decide) (hts _ q2328) (fun x h => h) rfl (hin rfl) rfl (tyX15_ok 48 (by decide)) rfl rfl hl hd kk
theorem pf_16126 : pfOK RX15 126 16 16 49 2 1 := by
  intro p l e R s m args below meth c H locs cells slots Q pc ls rest D tys ws a q0 ci fs v A H0 hx hts hown hK hP hD hS he h1 h2 hin hv hl hd kk
  obtain ⟨x, rfl⟩ := hv
  obtain rfl : ci = 15 := by omega
  exact va_putF hx rfl hts in_X15 tyX15 tyX15_ok nmX15 hown hK hP hD hS q0 he (C := RX15) (T := TX15) (N := 64) rfl 49 (by decide) (hts _ q2329) (fun x h => h) rfl (hin rfl) rfl (tyX15_ok 49 (by decide)) rfl rfl hl hd kk
theorem pf_16129 : pfOK RX15 129 16 16 50 2 1 := by
  intro p l e R s m args below meth c H locs cells slots Q pc ls rest D tys ws a q0 ci fs v A H0 hx hts hown hK hP hD hS he h1 h2 hin hv hl hd kk
  obtain ⟨x, rfl⟩ := hv
  obtain rfl : ci = 15 := by omega
  exact va_putF hx rfl hts in_X15 tyX15 tyX15_ok nmX15 hown hK hP hD hS q0 he (C := RX15) (T := TX15) (N := 64) rfl 50 (by decide) (hts _ q2330) (fun x h => h) rfl (hin rfl) rfl (tyX15_ok 50 (by decide)) rfl rfl hl hd kk
theorem pf_16132 : pfOK RX15 132 16 16 51 2 1 := by
  intro p l e R s m args below meth c H locs cells slots Q pc ls rest D tys ws a q0 ci fs v A H0 hx hts hown hK hP hD hS he h1 h2 hin hv hl hd kk
  obtain ⟨x, rfl⟩ := hv
  obtain rfl : ci = 15 := by omega
  exact va_putF hx rfl hts in_X15 tyX15 tyX15_ok nmX15 hown hK hP hD hS q0 he (C := RX15) (T := TX15) (N := 64) rfl 51 (by decide) (hts _ q2331) (fun x h => h) rfl (hin rfl) rfl (tyX15_ok 51 (by decide)) rfl rfl hl hd kk
theorem pf_16135 : pfOK RX15 135 16 16 59 0 0 := by
  intro p l e R s m args below meth c H locs cells slots Q pc ls rest D tys ws a q0 ci fs v A H0 hx hts hown hK hP hD hS he h1 h2 hin hv hl hd kk
  obtain ⟨x, rfl⟩ := hv
  obtain rfl : ci = 15 := by omega
  exact va_put hx rfl hts in_X15 tyX15 tyX15_ok nmX15 hown hK hP hD hS q0 he (C := RX15) (T := TX15) (N := 64) rfl 59 (by decide) (hts _ q2339) (fun x h => h) rfl (tyX15_ok 59 (by decide)) rfl rfl hl hd kk
theorem pf_16138 : pfOK RX15 138 16 16 60 0 0 := by
  intro p l e R s m args below meth c H locs cells slots Q pc ls rest D tys ws a q0 ci fs v A H0 hx hts hown hK hP hD hS he h1 h2 hin hv hl hd kk
  obtain ⟨x, rfl⟩ := hv
  obtain rfl : ci = 15 := by omega
  exact va_put hx rfl hts in_X15 tyX15 tyX15_ok nmX15 hown hK hP hD hS q0 he (C := RX15) (T := TX15) (N := 64) rfl 60 (by decide) (hts _ q2340) (fun x h => h) rfl (tyX15_ok 60 (by decide)) rfl rfl hl hd kk
theorem pf_16141 : pfOK RX15 141 16 16 4 0 0 := by
  intro p l e R s m args below meth c H locs cells slots Q pc ls rest D tys ws a q0 ci fs v A H0 hx hts hown hK hP hD hS he h1 h2 hin hv hl hd kk
  obtain ⟨x, rfl⟩ := hv
  obtain rfl : ci = 15 := by omega
  exact va_put hx rfl hts in_X15 tyX15 tyX15_ok nmX15 hown hK hP hD hS q0 he (C := RX15) (T := TX15) (N := 64) rfl 4 (by decide) (hts _ q2284) (fun x h => h) rfl (tyX15_ok 4 (by decide)) rfl rfl hl hd kk
theorem pf_16144 : pfOK RX15 144 16 16 5 0 0 := by
  intro p l e R s m args below meth c H locs cells slots Q pc ls rest D tys ws a q0 ci fs v A H0 hx hts hown hK hP hD hS he h1 h2 hin hv hl hd kk
  obtain ⟨x, rfl⟩ := hv
  obtain rfl : ci = 15 := by omega
  exact va_put hx rfl hts in_X15 tyX15 tyX15_ok nmX15 hown hK hP hD hS q0 he (C := RX15) (T := TX15) (N := 64) rfl 5 (by decide) (hts _ q2285) (fun x h => h) rfl (tyX15_ok 5 (by decide)) rfl rfl hl hd kk
theorem pf_16152 : pfOK RX15 152 16 16 7 0 0 := by
  intro p l e R s m args below meth c H locs cells slots Q pc ls rest D tys ws a q0 ci fs v A H0 hx hts hown hK hP hD hS he h1 h2 hin hv hl hd kk
  obtain ⟨x, rfl⟩ := hv
  obtain rfl : ci = 15 := by omega
  exact va_put hx rfl hts in_X15 tyX15 tyX15_ok nmX15 hown hK hP hD hS q0 he (C := RX15) (T := TX15) (N := 64) rfl 7 (by decide) (hts _ q2287) (fun x h => h) rfl (tyX15_ok 7 (by decide)) rfl rfl hl hd kk
theorem pf_16155 : pfOK RX15 155 16 16 10 0 0 := by
  intro p l e R s m args below meth c H locs cells slots Q pc ls rest D tys ws a q0 ci fs v A H0 hx hts hown hK hP hD hS he h1 h2 hin hv hl hd kk
  obtain ⟨x, rfl⟩ := hv
  obtain rfl : ci = 15 := by omega
  exact va_put hx rfl hts in_X15 tyX15 tyX15_ok nmX15 hown hK hP hD hS q0 he (C := RX15) (T := TX15) (N := 64) rfl 10 (by decide) (hts _ q2290) (fun x h => h) rfl (tyX15_ok 10 (by decide)) rfl rfl hl hd kk
theorem pf_16194 : pfOK RX15 194 16 16 11 0 0 := by
  intro p l e R s m args below meth c H locs cells slots Q pc ls rest D tys ws a q0 ci fs v A H0 hx hts hown hK hP hD hS he h1 h2 hin hv hl hd kk
  obtain ⟨x, rfl⟩ := hv
  obtain rfl : ci = 15 := by omega
  exact va_put hx rfl hts in_X15 tyX15 tyX15_ok nmX15 hown hK hP hD hS q0 he (C := RX15) (T := TX15) (N := 64) rfl 11 (by decide) (hts _ q2291) (fun x h => h) rfl (tyX15_ok 11 (by decide)) rfl rfl hl hd kk
theorem pf_16267 : pfOK RX15 267 17 17 0 0 0 := by
  intro p l e R s m args below meth c H locs cells slots Q pc ls rest D tys ws a q0 ci fs v A H0 hx hts hown hK hP hD hS he h1 h2 hin hv hl hd kk
  obtain ⟨x, rfl⟩ := hv
  obtain rfl : ci = 16 := by omega
  exact va_put hx rfl hts in_X16 tyX16 tyX16_ok nmX16 hown hK hP hD hS q0 he (C := RX16) (T := TX16) (N := 53) rfl 0 (by decide) (hts _ q2075) (fun x h => h) rfl (tyX16_ok 0 (by decide)) rfl rfl hl hd kk
theorem pf_16293 : pfOK RX15 293 17 17 1 0 0 := by
  intro p l e R s m args below meth c H locs cells slots Q pc ls rest D tys ws a q0 ci fs v A H0 hx hts hown hK hP hD hS he h1 h2 hin hv hl hd kk
  obtain ⟨x, rfl⟩ := hv
  obtain rfl : ci = 16 := by omega
  exact va_put hx rfl hts in_X16 tyX16 tyX16_ok nmX16 hown hK hP hD hS q0 he (C := RX16) (T := TX16) (N := 53) rfl 1 (by decide) (hts _ q2076) (fun x h => h) rfl (tyX16_ok 1 (by decide)) rfl rfl hl hd kk
theorem pf_16303 : pfOK RX15 303 17 17 2 0 0 := by
  intro p l e R s m args below meth c H locs cells slots Q pc ls rest D tys ws a q0 ci fs v A H0 hx hts hown hK hP hD hS he h1 h2 hin hv hl hd kk
  obtain ⟨x, rfl⟩ := hv
  obtain rfl : ci = 16 := by omega
  exact va_put hx rfl hts in_X16 tyX16 tyX16_ok nmX16 hown hK hP hD hS q0 he (C := RX16) (T := TX16) (N := 53) rfl 2 (by decide) (hts _ q2077) (fun x h => h) rfl (tyX16_ok 2 (by decide)) rfl rfl hl hd kk
theorem pf_16353 : pfOK RX15 353 17 17 3 0 0 := by
  intro p l e R s m args below meth c H locs cells slots Q pc ls rest D tys ws a q0 ci fs v A H0 hx hts hown hK hP hD hS he h1 h2 hin hv hl hd kk
  obtain ⟨x, rfl⟩ := hv
  obtain rfl : ci = 16 := by omega
  exact va_put hx rfl hts in_X16 tyX16 tyX16_ok nmX16 hown hK hP hD hS q0 he (C := RX16) (T := TX16) (N := 53) rfl 3 (by decide) (hts _ q2078) (fun x h => h) rfl (tyX16_ok 3 (by decide)) rfl rfl hl hd kk
theorem pf_16356 : pfOK RX15 356 17 17 4 0 0 := by
  intro p l e R s m args below meth c H locs cells slots Q pc ls rest D tys ws a q0 ci fs v A H0 hx hts hown hK hP hD hS he h1 h2 hin hv hl hd kk
  obtain ⟨x, rfl⟩ := hv
  obtain rfl : ci = 16 := by omega
  exact va_put hx rfl hts in_X16 tyX16 tyX16_ok nmX16 hown hK hP hD hS q0 he (C := RX16) (T := TX16) (N := 53) rfl 4 (by decide) (hts _ q2079) (fun x h => h) rfl (tyX16_ok 4 (by decide)) rfl rfl hl hd kk
theorem pf_16359 : pfOK RX15 359 17 17 5 0 0 := by
  intro p l e R s m args below meth c H locs cells slots Q pc ls rest D tys ws a q0 ci fs v A H0 hx hts hown hK hP hD hS he h1 h2 hin hv hl hd kk
  obtain ⟨x, rfl⟩ := hv
  obtain rfl : ci = 16 := by omega
  exact va_put hx rfl hts in_X16 tyX16 tyX16_ok nmX16 hown hK hP hD hS q0 he (C := RX16) (T := TX16) (N := 53) rfl 5 (by decide) (hts _ q2080) (fun x h => h) rfl (tyX16_ok 5 (by decide)) rfl rfl hl hd kk
theorem pf_16362 : pfOK RX15 362 17 17 7 0 0 := by
  intro p l e R s m args below meth c H locs cells slots Q pc ls rest D tys ws a q0 ci fs v A H0 hx hts hown hK hP hD hS he h1 h2 hin hv hl hd kk
  obtain ⟨x, rfl⟩ := hv
  obtain rfl : ci = 16 := by omega
  exact va_put hx rfl hts in_X16 tyX16 tyX16_ok nmX16 hown hK hP hD hS q0 he (C := RX16) (T := TX16) (N := 53) rfl 7 (by decide) (hts _ q2082) (fun x h => h) rfl (tyX16_ok 7 (by decide)) rfl rfl hl hd kk
theorem pf_16372 : pfOK RX15 372 16 16 19 0 0 := by
  intro p l e R s m args below meth c H locs cells slots Q pc ls rest D tys ws a q0 ci fs v A H0 hx hts hown hK hP hD hS he h1 h2 hin hv hl hd kk
  obtain ⟨x, rfl⟩ := hv
  obtain rfl : ci = 15 := by omega
  exact va_put hx rfl hts in_X15 tyX15 tyX15_ok nmX15 hown hK hP hD hS q0 he (C := RX15) (T := TX15) (N := 64) rfl 19 (by decide) (hts _ q2299) (fun x h => h) rfl (tyX15_ok 19 (by decide)) rfl rfl hl hd kk
theorem pf_16453 : pfOK RX15 453 17 17 6 0 0 := by
  intro p l e R s m args below meth c H locs cells slots Q pc ls rest D tys ws a q0 ci fs v A H0 hx hts hown hK hP hD hS he h1 h2 hin hv hl hd kk
  obtain ⟨x, rfl⟩ := hv
  obtain rfl : ci = 16 := by omega
  exact va_put hx rfl hts in_X16 tyX16 tyX16_ok nmX16 hown hK hP hD hS q0 he (C := RX16) (T := TX16) (N := 53) rfl 6 (by decide) (hts _ q2081) (fun x h => h) rfl (tyX16_ok 6 (by decide)) rfl rfl hl hd kk
theorem pf_16495 : pfOK RX15 495 16 16 25 0 0 := by
  intro p l e R s m args below meth c H locs cells slots Q pc ls rest D tys ws a q0 ci fs v A H0 hx hts hown hK hP hD hS he h1 h2 hin hv hl hd kk
  obtain ⟨x, rfl⟩ := hv
  obtain rfl : ci = 15 := by omega
  exact va_put hx rfl hts in_X15 tyX15 tyX15_ok nmX15 hown hK hP hD hS q0 he (C := RX15) (T := TX15) (N := 64) rfl 25 (by decide) (hts _ q2305) (fun x h => h) rfl (tyX15_ok 25 (by decide)) rfl rfl hl hd kk
theorem pf_16545 : pfOK RX15 545 16 16 36 3 0 := by
  intro p l e R s m args below meth c H locs cells slots Q pc ls rest D tys ws a q0 ci fs v A H0 hx hts hown hK hP hD hS he h1 h2 hin hv hl hd kk
  rcases hv with rfl | rfl
  · obtain rfl : ci = 15 := by omega
    exact va_put hx rfl hts in_X15 tyX15 tyX15_ok nmX15 hown hK hP hD hS q0 he (C := RX15) (T := TX15) (N := 64) rfl 36 (by decide) (hts _ q2316) (fun x h => h) rfl (tyX15_ok 36 (by decide)) rfl rfl hl hd kk
  · obtain rfl : ci = 15 := by omega
    exact va_put hx rfl hts in_X15 tyX15 tyX15_ok nmX15 hown hK hP hD hS q0 he (C := RX15) (T := TX15) (N := 64) rfl 36 (by decide) (hts _ q2316) (fun x h => h) rfl (tyX15_ok 36 (by decide)) rfl rfl hl hd kk
theorem pf_16585 : pfOK RX15 585 16 16 37 3 0 := by
  intro p l e R s m args below meth c H locs cells slots Q pc ls rest D tys ws a q0 ci fs v A H0 hx hts hown hK hP hD hS he h1 h2 hin hv hl hd kk
  rcases hv with rfl | rfl
  · obtain rfl : ci = 15 := by omega
    exact va_put hx rfl hts in_X15 tyX15 tyX15_ok nmX15 hown hK hP hD hS q0 he (C := RX15) (T := TX15) (N := 64) rfl 37 (by decide) (hts _ q2317) (fun x h => h) rfl (tyX15_ok 37 (by decide)) rfl rfl hl hd kk
  · obtain rfl : ci = 15 := by omega
    exact va_put hx rfl hts in_X15 tyX15 tyX15_ok nmX15 hown hK hP hD hS q0 he (C := RX15) (T := TX15) (N := 64) rfl 37 (by decide) (hts _ q2317) (fun x h => h) rfl (tyX15_ok 37 (by decide)) rfl rfl hl hd kk
theorem pf_16625 : pfOK RX15 625 16 16 39 0 0 := by
  intro p l e R s m args below meth c H locs cells slots Q pc ls rest D tys ws a q0 ci fs v A H0 hx hts hown hK hP hD hS he h1 h2 hin hv hl hd kk
  obtain ⟨x, rfl⟩ := hv
  obtain rfl : ci = 15 := by omega
  exact va_put hx rfl hts in_X15 tyX15 tyX15_ok nmX15 hown hK hP hD hS q0 he (C := RX15) (T := TX15) (N := 64) rfl 39 (by decide) (hts _ q2319) (fun x h => h) rfl (tyX15_ok 39 (by decide)) rfl rfl hl hd kk
theorem pf_16628 : pfOK RX15 628 16 16 40 1 0 := by
  intro p l e R s m args below meth c H locs cells slots Q pc ls rest D tys ws a q0 ci fs v A H0 hx hts hown hK hP hD hS he h1 h2 hin hv hl hd kk
  obtain ⟨x, rfl⟩ := hv
  obtain rfl : ci = 15 := by omega
  exact va_put hx rfl hts in_X15 tyX15 tyX15_ok nmX15 hown hK hP hD hS q0 he (C := RX15) (T := TX15) (N := 64) rfl 40 (by decide) (hts _ q2320) (fun x h => h) rfl (tyX15_ok 40 (by decide)) rfl rfl hl hd kk
theorem pf_16632 : pfOK RX15 632 16 16 38 3 0 := by
  intro p l e R s m args below meth c H locs cells slots Q pc ls rest D tys ws a q0 ci fs v A H0 hx hts hown hK hP hD hS he h1 h2 hin hv hl hd kk
  rcases hv with rfl | rfl
  · obtain rfl : ci = 15 := by omega
    exact va_put hx rfl hts in_X15 tyX15 tyX15_ok nmX15 hown hK hP hD hS q0 he (C := RX15) (T := TX15) (N := 64) rfl 38 (by decide) (hts _ q2318) (fun x h => h) rfl (tyX15_ok 38 (by decide)) rfl rfl hl hd kk
  · obtain rfl : ci = 15 := by omega
    exact va_put hx rfl hts in_X15 tyX15 tyX15_ok nmX15 hown hK hP hD hS q0 he (C := RX15) (T := TX15) (N := 64) rfl 38 (by decide) (hts _ q2318) (fun x h => h) rfl (tyX15_ok 38 (by decide)) rfl rfl hl hd kk
theorem pf_16794 : pfOK RX15 794 16 16 2 3 0 := by
  intro p l e R s m args below meth c H locs cells slots Q pc ls rest D tys ws a q0 ci fs v A H0 hx hts hown hK hP hD hS he h1 h2 hin hv hl hd kk
  rcases hv with rfl | rfl
  · obtain rfl : ci = 15 := by omega
    exact va_put hx rfl hts in_X15 tyX15 tyX15_ok nmX15 hown hK hP hD hS q0 he (C := RX15) (T := TX15) (N := 64) rfl 2 (by decide) (hts _ q2282) (fun x h => h) rfl (tyX15_ok 2 (by decide)) rfl rfl hl hd kk
  · obtain rfl : ci = 15 := by omega
    exact va_put hx rfl hts in_X15 tyX15 tyX15_ok nmX15 hown hK hP hD hS q0 he (C := RX15) (T := TX15) (N := 64) rfl 2 (by decide) (hts _ q2282) (fun x h => h) rfl (tyX15_ok 2 (by decide)) rfl rfl hl hd kk
theorem pf_16805 : pfOK RX15 805 16 16 55 0 0 := by
  intro p l e R s m args below meth c H locs cells slots Q pc ls rest D tys ws a q0 ci fs v A H0 hx hts hown hK hP hD hS he h1 h2 hin hv hl hd kk
  obtain ⟨x, rfl⟩ := hv
  obtain rfl : ci = 15 := by omega
  exact va_put hx rfl hts in_X15 tyX15 tyX15_ok nmX15 hown hK hP hD hS q0 he (C := RX15) (T := TX15) (N := 64) rfl 55 (by decide) (hts _ q2335) (fun x h => h) rfl (tyX15_ok 55 (by decide)) rfl rfl hl hd kk
theorem pf_16808 : pfOK RX15 808 16 16 53 0 0 := by
  intro p l e R s m args below meth c H locs cells slots Q pc ls rest D tys ws a q0 ci fs v A H0 hx hts hown hK hP hD hS he h1 h2 hin hv hl hd kk
  obtain ⟨x, rfl⟩ := hv
  obtain rfl : ci = 15 := by omega
  exact va_put hx rfl hts in_X15 tyX15 tyX15_ok nmX15 hown hK hP hD hS q0 he (C := RX15) (T := TX15) (N := 64) rfl 53 (by decide) (hts _ q2333) (fun x h => h) rfl (tyX15_ok 53 (by decide)) rfl rfl hl hd kk
theorem pf_16811 : pfOK RX15 811 16 16 54 0 0 := by
  intro p l e R s m args below meth c H locs cells slots Q pc ls rest D tys ws a q0 ci fs v A H0 hx hts hown hK hP hD hS he h1 h2 hin hv hl hd kk
  obtain ⟨x, rfl⟩ := hv
  obtain rfl : ci = 15 := by omega
  exact va_put hx rfl hts in_X15 tyX15 tyX15_ok nmX15 hown hK hP hD hS q0 he (C := RX15) (T := TX15) (N := 64) rfl 54 (by decide) (hts _ q2334) (fun x h => h) rfl (tyX15_ok 54 (by decide)) rfl rfl hl hd kk
theorem pf_16814 : pfOK RX15 814 16 16 56 0 0 := by
  intro p l e R s m args below meth c H locs cells slots Q pc ls rest D tys ws a q0 ci fs v A H0 hx hts hown hK hP hD hS he h1 h2 hin hv hl hd kk
  obtain ⟨x, rfl⟩ := hv
  obtain rfl : ci = 15 := by omega
  exact va_put hx rfl hts in_X15 tyX15 tyX15_ok nmX15 hown hK hP hD hS q0 he (C := RX15) (T := TX15) (N := 64) rfl 56 (by decide) (hts _ q2336) (fun x h => h) rfl (tyX15_ok 56 (by decide)) rfl rfl hl hd kk
theorem pf_16817 : pfOK RX15 817 16 16 57 0 0 := by
  intro p l e R s m args below meth c H locs cells slots Q pc ls rest D tys ws a q0 ci fs v A H0 hx hts hown hK hP hD hS he h1 h2 hin hv hl hd kk
  obtain ⟨x, rfl⟩ := hv
  obtain rfl : ci = 15 := by omega
  exact va_put hx rfl hts in_X15 tyX15 tyX15_ok nmX15 hown hK hP hD hS q0 he (C := RX15) (T := TX15) (N := 64) rfl 57 (by decide) (hts _ q2337) (fun x h => h) rfl (tyX15_ok 57 (by decide)) rfl rfl hl hd kk
theorem pf_16820 : pfOK RX15 820 16 16 58 0 0 := by
  intro p l e R s m args below meth c H locs cells slots Q pc ls rest D tys ws a q0 ci fs v A H0 hx hts hown hK hP hD hS he h1 h2 hin hv hl hd kk
  obtain ⟨x, rfl⟩ := hv
  obtain rfl : ci = 15 := by omega
  exact va_put hx rfl hts in_X15 tyX15 tyX15_ok nmX15 hown hK hP hD hS q0 he (C := RX15) (T := TX15) (N := 64) rfl 58 (by decide) (hts _ q2338) (fun x h => h) rfl (tyX15_ok 58 (by decide)) rfl rfl hl hd kk
theorem pf_16823 : pfOK RX15 823 16 16 52 0 0 := by
  intro p l e R s m args below meth c H locs cells slots Q pc ls rest D tys ws a q0 ci fs v A H0 hx hts hown hK hP hD hS he h1 h2 hin hv hl hd kk
  obtain ⟨x, rfl⟩ := hv
  obtain rfl : ci = 15 := by omega
  exact va_put hx rfl hts in_X15 tyX15 tyX15_ok nmX15 hown hK hP hD hS q0 he (C := RX15) (T := TX15) (N := 64) rfl 52 (by decide) (hts _ q2332) (fun x h => h) rfl (tyX15_ok 52 (by decide)) rfl rfl hl hd kk
theorem pf_16826 : pfOK RX15 826 16 16 61 0 0 := by
  intro p l e R s m args below meth c H locs cells slots Q pc ls rest D tys ws a q0 ci fs v A H0 hx hts hown hK hP hD hS he h1 h2 hin hv hl hd kk
  obtain ⟨x, rfl⟩ := hv
  obtain rfl : ci = 15 := by omega
  exact va_put hx rfl hts in_X15 tyX15 tyX15_ok nmX15 hown hK hP hD hS q0 he (C := RX15) (T := TX15) (N := 64) rfl 61 (by decide) (hts _ q2341) (fun x h => h) rfl (tyX15_ok 61 (by decide)) rfl rfl hl hd kk
theorem pf_16835 : pfOK RX15 835 16 16 63 3 0 := by
  intro p l e R s m args below meth c H locs cells slots Q pc ls rest D tys ws a q0 ci fs v A H0 hx hts hown hK hP hD hS he h1 h2 hin hv hl hd kk
  rcases hv with rfl | rfl
  · obtain rfl : ci = 15 := by omega
    exact va_put hx rfl hts in_X15 tyX15 tyX15_ok nmX15 hown hK hP hD hS q0 he (C := RX15) (T := TX15) (N := 64) rfl 63 (by decide) (hts _ q2343) (fun x h => h) rfl (tyX15_ok 63 (by decide)) rfl rfl hl hd kk
  · obtain rfl : ci = 15 := by omega
    exact va_put hx rfl hts in_X15 tyX15 tyX15_ok nmX15 hown hK hP hD hS q0 he (C := RX15) (T := TX15) (N := 64) rfl 63 (by decide) (hts _ q2343) (fun x h => h) rfl (tyX15_ok 63 (by decide)) rfl rfl hl hd kk
theorem pf_16841 : pfOK RX15 841 16 16 62 0 0 := by
  intro p l e R s m args below meth c H locs cells slots Q pc ls rest D tys ws a q0 ci fs v A H0 hx hts hown hK hP hD hS he h1 h2 hin hv hl hd kk
  obtain ⟨x, rfl⟩ := hv
  obtain rfl : ci = 15 := by omega
  exact va_put hx rfl hts in_X15 tyX15 tyX15_ok nmX15 hown hK hP hD hS q0 he (C := RX15) (T := TX15) (N := 64) rfl 62 (by decide) (hts _ q2342) (fun x h => h) rfl (tyX15_ok 62 (by decide)) rfl rfl hl hd kk
theorem pf_17009 : pfOK RX16 9 17 17 8 2 1 := by
  intro p l e R s m args below meth c H locs cells slots Q pc ls rest D tys ws a q0 ci fs v A H0 hx hts hown hK hP hD hS he h1 h2 hin hv hl hd kk
  obtain ⟨x, rfl⟩ := hv
  obtain rfl : ci = 16 := by omega
  exact va_putF hx rfl hts in_X16 tyX16 tyX16_ok nmX16 hown hK hP hD hS q0 he (C := RX16) (T := TX16) (N := 53) rfl 8 (by decide) (hts _ q2083) (fun x h => h) rfl (hin rfl) rfl (tyX16_ok 8 (by decide)) rfl rfl hl hd kk
theorem pf_17015 : pfOK RX16 15 17 17 9 2 1 := by
  intro p l e R s m args below meth c H locs cells slots Q pc ls rest D tys ws a q0 ci fs v A H0 hx hts hown hK hP hD hS he h1 h2 hin hv hl hd kk
  obtain ⟨x, rfl⟩ := hv
  obtain rfl : ci = 16 := by omega
  exact va_putF hx rfl hts in_X16 tyX16 tyX16_ok nmX16 hown hK hP hD hS q0 he (C := RX16) (T := TX16) (N := 53) rfl 9 (by decide) (hts _ q2085) (fun x h => h) rfl (hin rfl) rfl (tyX16_ok 9 (by decide)) rfl rfl hl hd kk
theorem pf_17018 : pfOK RX16 18 17 17 10 2 1 := by
  intro p l e R s m args below meth c H locs cells slots Q pc ls rest D tys ws a q0 ci fs v A H0 hx hts hown hK hP hD hS he h1 h2 hin hv hl hd kk
  obtain ⟨x, rfl⟩ := hv
  obtain rfl : ci = 16 := by omega
  exact va_putF hx rfl hts in_X16 tyX16 tyX16_ok nmX16 hown hK hP hD hS q0 he (C := RX16) (T := TX16) (N := 53) rfl 10 (by decide) (hts _ q2087) (fun x h => h) rfl (hin rfl) rfl (tyX16_ok 10 (by decide)) rfl rfl hl hd kk
theorem pf_17021 : pfOK RX16 21 17 17 11 2 1 := by
  intro p l e R s m args below meth c H locs cells slots Q pc ls rest D tys ws a q0 ci fs v A H0 hx hts hown hK hP hD hS he h1 h2 hin hv hl hd kk
  obtain ⟨x, rfl⟩ := hv
  obtain rfl : ci = 16 := by omega
  exact va_putF hx rfl hts in_X16 tyX16 tyX16_ok nmX16 hown hK hP hD hS q0 he (C := RX16) (T := TX16) (N := 53) rfl 11 (by decide) (hts _ q2089) (fun x h => h) rfl (hin rfl) rfl (tyX16_ok 11 (by decide)) rfl rfl hl hd kk
theorem pf_17024 : pfOK RX16 24 17 17 12 2 1 := by
  intro p l e R s m args below meth c H locs cells slots Q pc ls rest D tys ws a q0 ci fs v A H0 hx hts hown hK hP hD hS he h1 h2 hin hv hl hd kk
  obtain ⟨x, rfl⟩ := hv
  obtain rfl : ci = 16 := by omega
  exact va_putF hx rfl hts in_X16 tyX16 tyX16_ok nmX16 hown hK hP hD hS q0 he (C := RX16) (T := TX16) (N := 53) rfl 12 (by decide) (hts _ q2091) (fun x h => h) rfl (hin rfl) rfl (tyX16_ok 12 (by decide)) rfl rfl hl hd kk
theorem pf_17027 : pfOK RX16 27 17 17 13 2 1 := by
  intro p l e R s m args below meth c H locs cells slots Q pc ls rest D tys ws a q0 ci fs v A H0 hx hts hown hK hP hD hS he h1 h2 hin hv hl hd kk
  obtain ⟨x, rfl⟩ := hv
  obtain rfl : ci = 16 := by omega
  exact va_putF hx rfl hts in_X16 tyX16 tyX16_ok nmX16 hown hK hP hD hS q0 he (C := RX16) (T := TX16) (N := 53) rfl 13 (by decide) (hts _ q2093) (fun x h => h) rfl (hin rfl) rfl (tyX16_ok 13 (by decide)) rfl rfl hl hd kk
theorem pf_17030 : pfOK RX16 30 17 17 14 2 1 := by
  intro p l e R s m args below meth c H locs cells slots Q pc ls rest D tys ws a q0 ci fs v A H0 hx hts hown hK hP hD hS he h1 h2 hin hv hl hd kk
  obtain ⟨x, rfl⟩ := hv
  obtain rfl : ci = 16 := by omega
  exact va_putF hx rfl hts in_X16 tyX16 tyX16_ok nmX16 hown hK hP hD hS q0 he (C := RX16) (T := TX16) (N := 53) rfl 14 (by decide) (hts _ q2095) (fun x h => h) rfl (hin rfl) rfl (tyX16_ok 14 (by decide)) rfl rfl hl hd kk
theorem pf_17034 : pfOK RX16 34 17 17 15 2 1 := by
  intro p l e R s m args below meth c H locs cells slots Q pc ls rest D tys ws a q0 ci fs v A H0 hx hts hown hK hP hD hS he h1 h2 hin hv hl hd kk
  obtain ⟨x, rfl⟩ := hv
  obtain rfl : ci = 16 := by omega
  exact va_putF hx rfl hts in_X16 tyX16 tyX16_ok nmX16 hown hK hP hD hS q0 he (C := RX16) (T := TX16) (N := 53) rfl 15 (by decide) (hts _ q2097) (fun x h => h) rfl (hin rfl) rfl (tyX16_ok 15 (by decide)) rfl rfl hl hd kk
theorem pf_17037 : pfOK RX16 37 17 17 16 2 1 := by
  intro p l e R s m args below meth c H locs cells slots Q pc ls rest D tys ws a q0 ci fs v A H0 hx hts hown hK hP hD hS he h1 h2 hin hv hl hd kk
  obtain ⟨x, rfl⟩ := hv
  obtain rfl : ci = 16 := by omega
  exact va_putF hx rfl hts in_X16 tyX16 tyX16_ok nmX16 hown hK hP hD hS q0 he (C := RX16) (T := TX16) (N := 53) rfl 16 (by decide) (hts _ q2099) (fun x h => h) rfl (hin rfl) rfl (tyX16_ok 16 (by decide)) rfl rfl hl hd kk
theorem pf_17040 : pfOK RX16 40 17 17 17 2 1 := by
  intro p l e R s m args below meth c H locs cells slots Q pc ls rest D tys ws a q0 ci fs v A H0 hx hts hown hK hP hD hS he h1 h2 hin hv hl hd kk
  obtain ⟨x, rfl⟩ := hv
  obtain rfl : ci = 16 := by omega
  exact va_putF hx rfl hts in_X16 tyX16 tyX16_ok nmX16 hown hK hP hD hS q0 he (C := RX16) (T := TX16) (N := 53) rfl 17 (by decide) (hts _ q2101) (fun x h => h) rfl (hin rfl) rfl (tyX16_ok 17 (by decide)) rfl rfl hl hd kk
theorem pf_17043 : pfOK RX16 43 17 17 18 2 1 := by
  intro p l e R s m args below meth c H locs cells slots Q pc ls rest D tys ws a q0 ci fs v A H0 hx hts hown hK hP hD hS he h1 h2 hin hv hl hd kk
  obtain ⟨x, rfl⟩ := hv
  obtain rfl : ci = 16 := by omega
  exact va_putF hx rfl hts in_X16 tyX16 tyX16_ok nmX16 hown hK hP hD hS q0 he (C := RX16) (T := TX16) (N := 53) rfl 18 (by decide) (hts _ q2103) (fun x h => h) rfl (hin rfl) rfl (tyX16_ok 18 (by decide)) rfl rfl hl hd kk
theorem pf_17046 : pfOK RX16 46 17 17 19 2 1 := by
  intro p l e R s m args below meth c H locs cells slots Q pc ls rest D tys ws a q0 ci fs v A H0 hx hts hown hK hP hD hS he h1 h2 hin hv hl hd kk
  obtain ⟨x, rfl⟩ := hv
  obtain rfl : ci = 16 := by omega
  exact va_putF hx rfl hts in_X16 tyX16 tyX16_ok nmX16 hown hK hP hD hS q0 he (C := RX16) (T := TX16) (N := 53) rfl 19 (by decide) (hts _ q2105) (fun x h => h) rfl (hin rfl) rfl (tyX16_ok 19 (by decide)) rfl rfl hl hd kk
theorem pf_17049 : pfOK RX16 49 17 17 20 2 1 := by
  intro p l e R s m args below meth c H locs cells slots Q pc ls rest D tys ws a q0 ci fs v A H0 hx hts hown hK hP hD hS he h1 h2 hin hv hl hd kk
  obtain ⟨x, rfl⟩ := hv
  obtain rfl : ci = 16 := by omega
  exact va_putF hx rfl hts in_X16 tyX16 tyX16_ok nmX16 hown hK hP hD hS q0 he (C := RX16) (T := TX16) (N := 53) rfl 20 (by decide) (hts _ q2107) (fun x h => h) rfl (hin rfl) rfl (tyX16_ok 20 (by decide)) rfl rfl hl hd kk
theorem pf_17052 : pfOK RX16 52 17 17 21 2 1 := by
  intro p l e R s m args below meth c H locs cells slots Q pc ls rest D tys ws a q0 ci fs v A H0 hx hts hown hK hP hD hS he h1 h2 hin hv hl hd kk
  obtain ⟨x, rfl⟩ := hv
  obtain rfl : ci = 16 := by omega
  exact va_putF hx rfl hts in_X16 tyX16 tyX16_ok nmX16 hown hK hP hD hS q0 he (C := RX16) (T := TX16) (N := 53) rfl 21 (by decide) (hts _ q2109) (fun x h => h) rfl (hin rfl) rfl (tyX16_ok 21 (by decide)) rfl rfl hl hd kk
theorem pf_17055 : pfOK RX16 55 17 17 22 2 1 := by
  intro p l e R s m args below meth c H locs cells slots Q pc ls rest D tys ws a q0 ci fs v A H0 hx hts hown hK hP hD hS he h1 h2 hin hv hl hd kk
  obtain ⟨x, rfl⟩ := hv
  obtain rfl : ci = 16 := by omega
  exact va_putF hx rfl hts in_X16 tyX16 tyX16_ok nmX16 hown hK hP hD hS q0 he (C := RX16) (T := TX16) (N := 53) rfl 22 (by decide) (hts _ q2111) (fun x h => h) rfl (hin rfl) rfl (tyX16_ok 22 (by decide)) rfl rfl hl hd kk
theorem pf_17058 : pfOK RX16 58 17 17 23 2 1 := by
  intro p l e R s m args below meth c H locs cells slots Q pc ls rest D tys ws a q0 ci fs v A H0 hx hts hown hK hP hD hS he h1 h2 hin hv hl hd kk
  obtain ⟨x, rfl⟩ := hv
  obtain rfl : ci = 16 := by omega
  exact va_putF hx rfl hts in_X16 tyX16 tyX16_ok nmX16 hown hK hP hD hS q0 he (C := RX16) (T := TX16) (N := 53) rfl 23 (by decide) (hts _ q2113) (fun x h => h) rfl (hin rfl) rfl (tyX16_ok 23 (by decide)) rfl rfl hl hd kk
theorem pf_17061 : pfOK RX16 61 17 17 24 2 1 := by
  intro p l e R s m args below meth c H locs cells slots Q pc ls rest D tys ws a q0 ci fs v A H0 hx hts hown hK hP hD hS he h1 h2 hin hv hl hd kk
  obtain ⟨x, rfl⟩ := hv
  obtain rfl : ci = 16 := by omega
  exact va_putF hx rfl hts in_X16 tyX16 tyX16_ok nmX16 hown hK hP hD hS q0 he (C := RX16) (T := TX16) (N := 53) rfl 24 (by decide) (hts _ q2115) (fun x h => h) rfl (hin rfl) rfl (tyX16_ok 24 (by decide)) rfl rfl hl hd kk
theorem pf_17064 : pfOK RX16 64 17 17 25 2 1 := by
  intro p l e R s m args below meth c H locs cells slots Q pc ls rest D tys ws a q0 ci fs v A H0 hx hts hown hK hP hD hS he h1 h2 hin hv hl hd kk
  obtain ⟨x, rfl⟩ := hv
  obtain rfl : ci = 16 := by omega
  exact va_putF hx rfl hts in_X16 tyX16 tyX16_ok nmX16 hown hK hP hD hS q0 he (C := RX16) (T := TX16) (N := 53) rfl 25 (by decide) (hts _ q2117) (fun x h => h) rfl (hin rfl) rfl (tyX16_ok 25 (by decide)) rfl rfl hl hd kk
theorem pf_17067 : pfOK RX16 67 17 17 26 2 1 := by
  intro p l e R s m args below meth c H locs cells slots Q pc ls rest D tys ws a q0 ci fs v A H0 hx hts hown hK hP hD hS he h1 h2 hin hv hl hd kk
  obtain ⟨x, rfl⟩ := hv
  obtain rfl : ci = 16 := by omega
  exact va_putF hx rfl hts in_X16 tyX16 tyX16_ok nmX16 hown hK hP hD hS q0 he (C := RX16) (T := TX16) (N := 53) rfl 26 (by decide) (hts _ q2119) (fun x h => h) rfl (hin rfl) rfl (tyX16_ok 26 (by decide)) rfl rfl hl hd kk
theorem pf_17070 : pfOK RX16 70 17 17 27 2 1 := by
  intro p l e R s m args below meth c H locs cells slots Q pc ls rest D tys ws a q0 ci fs v A H0 hx hts hown hK hP hD hS he h1 h2 hin hv hl hd kk
  obtain ⟨x, rfl⟩ := hv
  obtain rfl : ci = 16 := by omega
  exact va_putF hx rfl hts in_X16 tyX16 tyX16_ok nmX16 hown hK hP hD hS q0 he (C := RX16) (T := TX16) (N := 53) rfl 27 (by decide) (hts _ q2121) (fun x h => h) rfl (hin rfl) rfl (tyX16_ok 27 (by decide)) rfl rfl hl hd kk
theorem pf_17073 : pfOK RX16 73 17 17 28 2 1 := by
  intro p l e R s m args below meth c H locs cells slots Q pc ls rest D tys ws a q0 ci fs v A H0 hx hts hown hK hP hD hS he h1 h2 hin hv hl hd kk
  obtain ⟨x, rfl⟩ := hv
  obtain rfl : ci = 16 := by omega
  exact va_putF hx rfl hts in_X16 tyX16 tyX16_ok nmX16 hown hK hP hD hS q0 he (C := RX16) (T := TX16) (N := 53) rfl 28 (by decide) (hts _ q2123) (fun x h => h) rfl (hin rfl) rfl (tyX16_ok 28 (by decide)) rfl rfl hl hd kk
theorem pf_17076 : pfOK RX16 76 17 17 29 2 1 := by
  intro p l e R s m args below meth c H locs cells slots Q pc ls rest D tys ws a q0 ci fs v A H0 hx hts hown hK hP hD hS he h1 h2 hin hv hl hd kk
  obtain ⟨x, rfl⟩ := hv
  obtain rfl : ci = 16 := by omega
  exact va_putF hx rfl hts in_X16 tyX16 tyX16_ok nmX16 hown hK hP hD hS q0 he (C := RX16) (T := TX16) (N := 53) rfl 29 (by decide) (hts _ q2125) (fun x h => h) rfl (hin rfl) rfl (tyX16_ok 29 (by decide)) rfl rfl hl hd kk
theorem pf_17079 : pfOK RX16 79 17 17 30 2 1 := by
  intro p l e R s m args below meth c H locs cells slots Q pc ls rest D tys ws a q0 ci fs v A H0 hx hts hown hK hP hD hS he h1 h2 hin hv hl hd kk
  obtain ⟨x, rfl⟩ := hv
  obtain rfl : ci = 16 := by omega
  exact va_putF hx rfl hts in_X16 tyX16 tyX16_ok nmX16 hown hK hP hD hS q0 he (C := RX16) (T := TX16) (N := 53) rfl 30 (by decide) (hts _ q2127) (fun x h => h) rfl (hin rfl) rfl (tyX16_ok 30 (by decide)) rfl rfl hl hd kk
theorem pf_17082 : pfOK RX16 82 17 17 31 2 1 := by
  intro p l e R s m args below meth c H locs cells slots Q pc ls rest D tys ws a q0 ci fs v A H0 hx hts hown hK hP hD hS he h1 h2 hin hv hl hd kk
  obtain ⟨x, rfl⟩ := hv
  obtain rfl : ci = 16 := by omega
  exact va_putF hx rfl hts in_X16 tyX16 tyX16_ok nmX16 hown hK hP hD hS q0 he (C := RX16) (T := TX16) (N := 53) rfl 31 (by decide) (hts _ q2129) (fun x h => h) rfl (hin rfl) rfl (tyX16_ok 31 (by decide)) rfl rfl hl hd kk
theorem pf_17085 : pfOK RX16 85 17 17 32 2 1 := by
  intro p l e R s m args below meth c H locs cells slots Q pc ls rest D tys ws a q0 ci fs v A H0 hx hts hown hK hP hD hS he h1 h2 hin hv hl hd kk
  obtain ⟨x, rfl⟩ := hv
  obtain rfl : ci = 16 := by omega
  exact va_putF hx rfl hts in_X16 tyX16 tyX16_ok nmX16 hown hK hP hD hS q0 he (C := RX16) (T := TX16) (N := 53) rfl 32 (by decide) (hts _ q2131) (fun x h => h) rfl (hin rfl) rfl (tyX16_ok 32 (by decide)) rfl rfl hl hd kk
theorem pf_17088 : pfOK RX16 88 17 17 33 2 1 := by
  intro p l e R s m args below meth c H locs cells slots Q pc ls rest D tys ws a q0 ci fs v A H0 hx hts hown hK hP hD hS he h1 h2 hin hv hl hd kk
  obtain ⟨x, rfl⟩ := hv
  obtain rfl : ci = 16 := by omega
  exact va_putF hx rfl hts in_X16 tyX16 tyX16_ok nmX16 hown hK hP hD hS q0 he (C := RX16) (T := TX16) (N := 53) rfl 33 (by decide) (hts _ q2133) (fun x h => h) rfl (hin rfl) rfl (tyX16_ok 33 (by decide)) rfl rfl hl hd kk
theorem pf_17091 : pfOK RX16 91 17 17 34 2 1 := by
  intro p l e R s m args below meth c H locs cells slots Q pc ls rest D tys ws a q0 ci fs v A H0 hx hts hown hK hP hD hS he h1 h2 hin hv hl hd kk
  obtain ⟨x, rfl⟩ := hv
  obtain rfl : ci = 16 := by omega
  exact va_putF hx rfl hts in_X16 tyX16 tyX16_ok nmX16 hown hK hP hD hS q0 he (C := RX16) (T := TX16) (N := 53) rfl 34 (by decide) (hts _ q2135) (fun x h => h) rfl (hin rfl) rfl (tyX16_ok 34 (by decide)) rfl rfl hl hd kk
theorem pf_17094 : pfOK RX16 94 17 17 35 2 1 := by
  intro p l e R s m args below meth c H locs cells slots Q pc ls rest D tys ws a q0 ci fs v A H0 hx hts hown hK hP hD hS he h1 h2 hin hv hl hd kk
  obtain ⟨x, rfl⟩ := hv
  obtain rfl : ci = 16 := by omega
  exact va_putF hx rfl hts in_X16 tyX16 tyX16_ok nmX16 hown hK hP hD hS q0 he (C := RX16) (T := TX16) (N := 53) rfl 35 (by decide) (hts _ q2137) (fun x h => h) rfl (hin rfl) rfl (tyX16_ok 35 (by decide)) rfl rfl hl hd kk
theorem pf_17098 : pfOK RX16 98 17 17 36 2 1 := by
  intro p l e R s m args below meth c H locs cells slots Q pc ls rest D tys ws a q0 ci fs v A H0 hx hts hown hK hP hD hS he h1 h2 hin hv hl hd kk
  obtain ⟨x, rfl⟩ := hv
  obtain rfl : ci = 16 := by omega
  exact va_putF hx rfl hts in_X16 tyX16 tyX16_ok nmX16 hown hK hP hD hS q0 he (C := RX16) (T := TX16) (N := 53) rfl 36 (by decide) (hts _ q2139) (fun x h => h) rfl (hin rfl) rfl (tyX16_ok 36 (by decide)) rfl rfl hl hd kk
theorem pf_17101 : pfOK RX16 101 17 17 37 2 1 := by
  intro p l e R s m args below meth c H locs cells slots Q pc ls rest D tys ws a q0 ci fs v A H0 hx hts hown hK hP hD hS he h1 h2 hin hv hl hd kk
  obtain ⟨x, rfl⟩ := hv
  obtain rfl : ci = 16 := by omega
  exact va_putF hx rfl hts in_X16 tyX16 tyX16_ok nmX16 hown hK hP hD hS q0 he (C := RX16) (T := TX16) (N := 53) rfl 37 (by decide) (hts _ q2141) (fun x h => h) rfl (hin rfl) rfl (tyX16_ok 37 (by decide)) rfl rfl hl hd kk
theorem pf_17104 : pfOK RX16 104 17 17 38 2 1 := by
  intro p l e R s m args below meth c H locs cells slots Q pc ls rest D tys ws a q0 ci fs v A H0 hx hts hown hK hP hD hS he h1 h2 hin hv hl hd kk
  obtain ⟨x, rfl⟩ := hv
  obtain rfl : ci = 16 := by omega
  exact va_putF hx rfl hts in_X16 tyX16 tyX16_ok nmX16 hown hK hP hD hS q0 he (C := RX16) (T := TX16) (N := 53) rfl 38 (by decide) (hts _ q2143) (fun x h => h) rfl (hin rfl) rfl (tyX16_ok 38 (by decide)) rfl rfl hl hd kk
theorem pf_17108 : pfOK RX16 108 17 17 39 2 1 := by
  intro p l e R s m args below meth c H locs cells slots Q pc ls rest D tys ws a q0 ci fs v A H0 hx hts hown hK hP hD hS he h1 h2 hin hv hl hd kk
  obtain ⟨x, rfl⟩ := hv
  obtain rfl : ci = 16 := by omega
  exact va_putF hx rfl hts in_X16 tyX16 tyX16_ok nmX16 hown hK hP hD hS q0 he (C := RX16) (T := TX16) (N := 53) rfl 39 (by decide) (hts _ q2145) (fun x h => h) rfl (hin rfl) rfl (tyX16_ok 39 (by decide)) rfl rfl hl hd kk
theorem pf_17111 : pfOK RX16 111 17 17 40 2 1 := by
  intro p l e R s m args below meth c H locs cells slots Q pc ls rest D tys ws a q0 ci fs v A H0 hx hts hown hK hP hD hS he h1 h2 hin hv hl hd kk
  obtain ⟨x, rfl⟩ := hv
  obtain rfl : ci = 16 := by omega
  exact va_putF hx rfl hts in_X16 tyX16 tyX16_ok nmX16 hown hK hP hD hS q0 he (C := RX16) (T := TX16) (N := 53) rfl 40 (by decide) (hts _ q2147) (fun x h => h) rfl (hin rfl) rfl (tyX16_ok 40 (by decide)) rfl rfl hl hd kk
theorem pf_17114 : pfOK RX16 114 17 17 41 2 1 := by
  intro p l e R s m args below meth c H locs cells slots Q pc ls rest D tys ws a q0 ci fs v A H0 hx hts hown hK hP hD hS he h1 h2 hin hv hl hd kk
  obtain ⟨x, rfl⟩ := hv
  obtain rfl : ci = 16 := by omega
  exact va_putF hx rfl hts in_X16 tyX16 tyX16_ok nmX16 hown hK hP hD hS q0 he (C := RX16) (T := TX16) (N := 53) rfl 41 (by decide) (hts _ q2149) (fun x h => h) rfl (hin rfl) rfl (tyX16_ok 41 (by decide)) rfl rfl hl hd kk
theorem pf_17117 : pfOK RX16 117 17 17 42 2 1 := by
  intro p l e R s m args below meth c H locs cells slots Q pc ls rest D tys ws a q0 ci fs v A H0 hx hts hown hK hP hD hS he h1 h2 hin hv hl hd kk
  obtain ⟨x, rfl⟩ := hv
  obtain rfl : ci = 16 := by omega
  exact va_putF hx rfl hts in_X16 tyX16 tyX16_ok nmX16 hown hK hP hD hS q0 he (C := RX16) (T := TX16) (N := 53) rfl 42 (by decide) (hts _ q2151) (fun x h => h) rfl (hin rfl) rfl (tyX16_ok 42 (by decide)) rfl rfl hl hd kk
theorem pf_17120 : pfOK RX16 120 17 17 43 2 1 := by
  intro p l e R s m args below meth c H locs cells slots Q pc ls rest D tys ws a q0 ci fs v A H0 hx hts hown hK hP hD hS he h1 h2 hin hv hl hd kk
  obtain ⟨x, rfl⟩ := hv
  obtain rfl : ci = 16 := by omega
  exact va_putF hx rfl hts in_X16 tyX16 tyX16_ok nmX16 hown hK hP hD hS q0 he (C := RX16) (T := TX16) (N := 53) rfl 43 (by decide) (hts _ q2153) (fun x h => h) rfl (hin rfl) rfl (tyX16_ok 43 (by decide)) rfl rfl hl hd kk
theorem pf_17123 : pfOK RX16 123 17 17 44 2 1 := by
  intro p l e R s m args below meth c H locs cells slots Q pc ls rest D tys ws a q0 ci fs v A H0 hx hts hown hK hP hD hS he h1 h2 hin hv hl hd kk
  obtain ⟨x, rfl⟩ := hv
  obtain rfl : ci = 16 := by omega
  exact va_putF hx rfl hts in_X16 tyX16 tyX16_ok nmX16 hown hK hP hD hS q0 he (C := RX16) (T := TX16) (N := 53) rfl 44 (by decide) (hts _ q2155) (fun x h => h) rfl (hin rfl) rfl (tyX16_ok 44 (by decide)) rfl rfl hl hd kk
theorem pf_17126 : pfOK RX16 126 17 17 45 2 1 := by
  intro p l e R s m args below meth c H locs cells slots Q pc ls rest D tys ws a q0 ci fs v A H0 hx hts hown hK hP hD hS he h1 h2 hin hv hl hd kk
  obtain ⟨x, rfl⟩ := hv
  obtain rfl : ci = 16 := by omega
  exact va_putF hx rfl hts in_X16 tyX16 tyX16_ok nmX16 hown hK hP hD hS q0 he (C := RX16) (T := TX16) (N := 53) rfl 45 (by decide) (hts _ q2157) (fun x h => h) rfl (hin rfl) rfl (tyX16_ok 45 (by decide)) rfl rfl hl hd kk
theorem pf_17129 : pfOK RX16 129 17 17 46 2 1 := by
  intro p l e R s m args below meth c H locs cells slots Q pc ls rest D tys ws a q0 ci fs v A H0 hx hts hown hK hP hD hS he h1 h2 hin hv hl hd kk
  obtain ⟨x, rfl⟩ := hv
  obtain rfl : ci = 16 := by omega
  exact va_putF hx rfl hts in_X16 tyX16 tyX16_ok nmX16 hown hK hP hD hS q0 he (C := RX16) (T := TX16) (N := 53) rfl 46 (by decide) (hts _ q2159) (fun x h => h) rfl (hin rfl) rfl (tyX16_ok 46 (by decide)) rfl rfl hl hd kk
theorem pf_17132 : pfOK RX16 132 17 17 47 2 1 := by
  intro p l e R s m args below meth c H locs cells slots Q pc ls rest D tys ws a q0 ci fs v A H0 hx hts hown hK hP hD hS he h1 h2 hin hv hl hd kk
  obtain ⟨x, rfl⟩ := hv
  obtain rfl : ci = 16 := by omega
  exact va_putF hx rfl hts in_X16 tyX16 tyX16_ok nmX16 hown hK hP hD hS q0 he (C := RX16) (T := TX16) (N := 53) rfl 47 (by decide) (hts _ q2161) (fun x h => h) rfl (hin rfl) rfl (tyX16_ok 47 (by decide)) rfl rfl hl hd kk
theorem pf_17135 : pfOK RX16 135 17 17 48 2 1 := by
  intro p l e R s m args below meth c H locs cells slots Q pc ls rest D tys ws a q0 ci fs v A H0 hx hts hown hK hP hD hS he h1 h2 hin hv hl hd kk
  obtain ⟨x, rfl⟩ := hv
  obtain rfl : ci = 16 := by omega
  exact va_putF hx rfl hts in_X16 tyX16 tyX16_ok nmX16 hown hK hP hD hS q0 he (C := RX16) (T := TX16) (N := 53) rfl 48 (by decide) (hts _ q2163) (fun x h => h) rfl (hin rfl) rfl (tyX16_ok 48 (by decide)) rfl rfl hl hd kk
theorem pf_17138 : pfOK RX16 138 17 17 49 2 1 := by
  intro p l e R s m args below meth c H locs cells slots Q pc ls rest D tys ws a q0 ci fs v A H0 hx hts hown hK hP hD hS he h1 h2 hin hv hl hd kk
  obtain ⟨x, rfl⟩ := hv
  obtain rfl : ci = 16 := by omega
  exact va_putF hx rfl hts in_X16 tyX16 tyX16_ok nmX16 hown hK hP hD hS q0 he (C := RX16) (T := TX16) (N := 53) rfl 49 (by decide) (hts _ q2165) (fun x h => h) rfl (hin rfl) rfl (tyX16_ok 49 (by decide)) rfl rfl hl hd kk
theorem pf_17141 : pfOK RX16 141 17 17 50 2 1 := by
  intro p l e R s m args below meth c H locs cells slots Q pc ls rest D tys ws a q0 ci fs v A H0 hx hts hown hK hP hD hS he h1 h2 hin hv hl hd kk
  obtain ⟨x, rfl⟩ := hv
  obtain rfl : ci = 16 := by omega
  exact va_putF hx rfl hts in_X16 tyX16 tyX16_ok nmX16 hown hK hP hD hS q0 he (C := RX16) (T := TX16) (N := 53) rfl 50 (by decide) (hts _ q2167) (fun x h => h) rfl (hin rfl) rfl (tyX16_ok 50 (by decide)) rfl rfl hl hd kk
theorem pf_17144 : pfOK RX16 144 17 17 51 2 1 := by
  intro p l e R s m args below meth c H locs cells slots Q pc ls rest D tys ws a q0 ci fs v A H0 hx hts hown hK hP hD hS he h1 h2 hin hv hl hd kk
  obtain ⟨x, rfl⟩ := hv
  obtain rfl : ci = 16 := by omega
  exact va_putF hx rfl hts in_X16 tyX16 tyX16_ok nmX16 hown hK hP hD hS q0 he (C := RX16) (T := TX16) (N := 53) rfl 51 (by decide) (hts _ q2169) (fun x h => h) rfl (hin rfl) rfl (tyX16_ok 51 (by decide)) rfl rfl hl hd kk
theorem pf_17147 : pfOK RX16 147 17 17 52 2 1 := by
  intro p l e R s m args below meth c H locs cells slots Q pc ls rest D tys ws a q0 ci fs v A H0 hx hts hown hK hP hD hS he h1 h2 hin hv hl hd kk
  obtain ⟨x, rfl⟩ := hv
  obtain rfl : ci = 16 := by omega
  exact va_putF hx rfl hts in_X16 tyX16 tyX16_ok nmX16 hown hK hP hD hS q0 he (C := RX16) (T := TX16) (N := 53) rfl 52 (by decide) (hts _ q2171) (fun x h => h) rfl (hin rfl) rfl (tyX16_ok 52 (by decide)) rfl rfl hl hd kk
def owS (t : Nat) : String := bif Nat.ble t 9 then (bif Nat.ble t 4 then (bif Nat.ble t 2 then (bif Nat.ble t 1 then (bif Nat.beq t 1 then RX0 else "") else (bif Nat.beq t 2 then RX1 else "")) else (bif Nat.ble t 3 then (bif Nat.beq t 3 then RX2 else "") else (bif Nat.beq t 4 then RX3 else ""))) else (bif Nat.ble t 6 then (bif Nat.ble t 5 then (bif Nat.beq t 5 then RX4 else "") else (bif Nat.beq t 6 then RX5 else "")) else (bif Nat.ble t 7 then (bif Nat.beq t 7 then RX6 else "") else (bif Nat.ble t 8 then (bif Nat.beq t 8 then RX7 else "") else (bif Nat.beq t 9 then RX8 else ""))))) else (bif Nat.ble t 14 then (bif Nat.ble t 11 then (bif Nat.ble t 10 then (bif Nat.beq t 10 then RX9 else "") else (bif Nat.beq t 11 then RX10 else "")) else (bif Nat.ble t 12 then (bif Nat.beq t 12 then RX11 else "") else (bif Nat.ble t 13 then (bif Nat.beq t 13 then RX12 else "") else (bif Nat.beq t 14 then RX13 else "")))) else (bif Nat.ble t 16 then (bif Nat.ble t 15 then (bif Nat.beq t 15 then RX14 else "") else (bif Nat.beq t 16 then RX15 else "")) else (bif Nat.ble t 17 then (bif Nat.beq t 17 then RX16 else "") else (bif Nat.ble t 19 then (bif Nat.beq t 19 then "SafeCodeLaw" else "") else (bif Nat.beq t 20 then RJ5 else "")))))
theorem tl_c {α : Type} {b : Bool} {x y : Option α} {z : α} {P : Prop} (hx : x = some z → P) (hy : y = some z → P) (h : (bif b then x else y) = some z) : P := by
  cases b
  · exact hy h
  · exact hx h
theorem tl_l {α : Type} {q K : Nat} {x z : α} {P : Nat → α → Prop} (hp : P K x) (h : (bif Nat.beq q K then some x else none) = some z) : P q z := by
  cases hb : Nat.beq q K with
  | false => rw [hb] at h; cases h
  | true =>
    rw [hb] at h
    cases h
    rw [Nat.eq_of_beq_eq_true hb]
    exact hp
def fug (q : Nat) : Bool := !(bif Nat.ble q 17037 then (bif Nat.ble q 15076 then (bif Nat.ble q 15033 then (bif Nat.ble q 10034 then (bif Nat.ble q 2020 then (bif Nat.ble q 2016 then (bif Nat.beq q 2016 then true else false) else (bif Nat.beq q 2020 then true else false)) else (bif Nat.ble q 10026 then (bif Nat.beq q 10026 then true else false) else (bif Nat.beq q 10034 then true else false))) else (bif Nat.ble q 15015 then (bif Nat.ble q 14056 then (bif Nat.beq q 14056 then true else false) else (bif Nat.beq q 15015 then true else false)) else (bif Nat.ble q 15018 then (bif Nat.beq q 15018 then true else false) else (bif Nat.ble q 15021 then (bif Nat.beq q 15021 then true else false) else (bif Nat.beq q 15033 then true else false))))) else (bif Nat.ble q 15052 then (bif Nat.ble q 15046 then (bif Nat.ble q 15040 then (bif Nat.beq q 15040 then true else false) else (bif Nat.beq q 15046 then true else false)) else (bif Nat.ble q 15049 then (bif Nat.beq q 15049 then true else false) else (bif Nat.beq q 15052 then true else false))) else (bif Nat.ble q 15064 then (bif Nat.ble q 15061 then (bif Nat.beq q 15061 then true else false) else (bif Nat.beq q 15064 then true else false)) else (bif Nat.ble q 15067 then (bif Nat.beq q 15067 then true else false) else (bif Nat.ble q 15070 then (bif Nat.beq q 15070 then true else false) else (bif Nat.beq q 15076 then true else false)))))) else (bif Nat.ble q 15107 then (bif Nat.ble q 15088 then (bif Nat.ble q 15082 then (bif Nat.ble q 15079 then (bif Nat.beq q 15079 then true else false) else (bif Nat.beq q 15082 then true else false)) else (bif Nat.ble q 15085 then (bif Nat.beq q 15085 then true else false) else (bif Nat.beq q 15088 then true else false))) else (bif Nat.ble q 15098 then (bif Nat.ble q 15092 then (bif Nat.beq q 15092 then true else false) else (bif Nat.beq q 15098 then true else false)) else (bif Nat.ble q 15101 then (bif Nat.beq q 15101 then true else false) else (bif Nat.ble q 15104 then (bif Nat.beq q 15104 then true else false) else (bif Nat.beq q 15107 then true else false))))) else (bif Nat.ble q 17021 then (bif Nat.ble q 17015 then (bif Nat.ble q 17009 then (bif Nat.beq q 17009 then true else false) else (bif Nat.beq q 17015 then true else false)) else (bif Nat.ble q 17018 then (bif Nat.beq q 17018 then true else false) else (bif Nat.beq q 17021 then true else false))) else (bif Nat.ble q 17027 then (bif Nat.ble q 17024 then (bif Nat.beq q 17024 then true else false) else (bif Nat.beq q 17027 then true else false)) else (bif Nat.ble q 17030 then (bif Nat.beq q 17030 then true else false) else (bif Nat.ble q 17034 then (bif Nat.beq q 17034 then true else false) else (bif Nat.beq q 17037 then true else false))))))) else (bif Nat.ble q 17091 then (bif Nat.ble q 17064 then (bif Nat.ble q 17049 then (bif Nat.ble q 17043 then (bif Nat.ble q 17040 then (bif Nat.beq q 17040 then true else false) else (bif Nat.beq q 17043 then true else false)) else (bif Nat.ble q 17046 then (bif Nat.beq q 17046 then true else false) else (bif Nat.beq q 17049 then true else false))) else (bif Nat.ble q 17055 then (bif Nat.ble q 17052 then (bif Nat.beq q 17052 then true else false) else (bif Nat.beq q 17055 then true else false)) else (bif Nat.ble q 17058 then (bif Nat.beq q 17058 then true else false) else (bif Nat.ble q 17061 then (bif Nat.beq q 17061 then true else false) else (bif Nat.beq q 17064 then true else false))))) else (bif Nat.ble q 17076 then (bif Nat.ble q 17070 then (bif Nat.ble q 17067 then (bif Nat.beq q 17067 then true else false) else (bif Nat.beq q 17070 then true else false)) else (bif Nat.ble q 17073 then (bif Nat.beq q 17073 then true else false) else (bif Nat.beq q 17076 then true else false))) else (bif Nat.ble q 17082 then (bif Nat.ble q 17079 then (bif Nat.beq q 17079 then true else false) else (bif Nat.beq q 17082 then true else false)) else (bif Nat.ble q 17085 then (bif Nat.beq q 17085 then true else false) else (bif Nat.ble q 17088 then (bif Nat.beq q 17088 then true else false) else (bif Nat.beq q 17091 then true else false)))))) else (bif Nat.ble q 17120 then (bif Nat.ble q 17104 then (bif Nat.ble q 17098 then (bif Nat.ble q 17094 then (bif Nat.beq q 17094 then true else false) else (bif Nat.beq q 17098 then true else false)) else (bif Nat.ble q 17101 then (bif Nat.beq q 17101 then true else false) else (bif Nat.beq q 17104 then true else false))) else (bif Nat.ble q 17111 then (bif Nat.ble q 17108 then (bif Nat.beq q 17108 then true else false) else (bif Nat.beq q 17111 then true else false)) else (bif Nat.ble q 17114 then (bif Nat.beq q 17114 then true else false) else (bif Nat.ble q 17117 then (bif Nat.beq q 17117 then true else false) else (bif Nat.beq q 17120 then true else false))))) else (bif Nat.ble q 17132 then (bif Nat.ble q 17126 then (bif Nat.ble q 17123 then (bif Nat.beq q 17123 then true else false) else (bif Nat.beq q 17126 then true else false)) else (bif Nat.ble q 17129 then (bif Nat.beq q 17129 then true else false) else (bif Nat.beq q 17132 then true else false))) else (bif Nat.ble q 17138 then (bif Nat.ble q 17135 then (bif Nat.beq q 17135 then true else false) else (bif Nat.beq q 17138 then true else false)) else (bif Nat.ble q 17141 then (bif Nat.beq q 17141 then true else false) else (bif Nat.ble q 17144 then (bif Nat.beq q 17144 then true else false) else (bif Nat.beq q 17147 then true else false))))))))
def fup (q : Nat) : Bool := bif Nat.ble q 15043 then (bif Nat.ble q 8032 then (bif Nat.ble q 5030 then (bif Nat.ble q 1222 then (bif Nat.ble q 1067 then (bif Nat.ble q 1039 then (bif Nat.ble q 1021 then (bif Nat.ble q 1010 then (bif Nat.beq q 1010 then true else false) else (bif Nat.beq q 1021 then true else false)) else (bif Nat.ble q 1030 then (bif Nat.beq q 1030 then true else false) else (bif Nat.beq q 1039 then true else false))) else (bif Nat.ble q 1053 then (bif Nat.ble q 1046 then (bif Nat.beq q 1046 then true else false) else (bif Nat.beq q 1053 then true else false)) else (bif Nat.ble q 1060 then (bif Nat.beq q 1060 then true else false) else (bif Nat.beq q 1067 then true else false)))) else (bif Nat.ble q 1081 then (bif Nat.ble q 1074 then (bif Nat.ble q 1071 then (bif Nat.beq q 1071 then true else false) else (bif Nat.beq q 1074 then true else false)) else (bif Nat.ble q 1078 then (bif Nat.beq q 1078 then true else false) else (bif Nat.beq q 1081 then true else false))) else (bif Nat.ble q 1092 then (bif Nat.ble q 1088 then (bif Nat.beq q 1088 then true else false) else (bif Nat.beq q 1092 then true else false)) else (bif Nat.ble q 1100 then (bif Nat.beq q 1100 then true else false) else (bif Nat.ble q 1122 then (bif Nat.beq q 1122 then true else false) else (bif Nat.beq q 1222 then true else false)))))) else (bif Nat.ble q 3021 then (bif Nat.ble q 2016 then (bif Nat.ble q 1232 then (bif Nat.ble q 1229 then (bif Nat.beq q 1229 then true else false) else (bif Nat.beq q 1232 then true else false)) else (bif Nat.ble q 2010 then (bif Nat.beq q 2010 then true else false) else (bif Nat.beq q 2016 then true else false))) else (bif Nat.ble q 3012 then (bif Nat.ble q 2020 then (bif Nat.beq q 2020 then true else false) else (bif Nat.beq q 3012 then true else false)) else (bif Nat.ble q 3018 then (bif Nat.beq q 3018 then true else false) else (bif Nat.beq q 3021 then true else false)))) else (bif Nat.ble q 5012 then (bif Nat.ble q 4007 then (bif Nat.ble q 3029 then (bif Nat.beq q 3029 then true else false) else (bif Nat.beq q 4007 then true else false)) else (bif Nat.ble q 4013 then (bif Nat.beq q 4013 then true else false) else (bif Nat.beq q 5012 then true else false))) else (bif Nat.ble q 5021 then (bif Nat.ble q 5018 then (bif Nat.beq q 5018 then true else false) else (bif Nat.beq q 5021 then true else false)) else (bif Nat.ble q 5024 then (bif Nat.beq q 5024 then true else false) else (bif Nat.ble q 5027 then (bif Nat.beq q 5027 then true else false) else (bif Nat.beq q 5030 then true else false))))))) else (bif Nat.ble q 6081 then (bif Nat.ble q 6009 then (bif Nat.ble q 5042 then (bif Nat.ble q 5036 then (bif Nat.ble q 5033 then (bif Nat.beq q 5033 then true else false) else (bif Nat.beq q 5036 then true else false)) else (bif Nat.ble q 5039 then (bif Nat.beq q 5039 then true else false) else (bif Nat.beq q 5042 then true else false))) else (bif Nat.ble q 5049 then (bif Nat.ble q 5045 then (bif Nat.beq q 5045 then true else false) else (bif Nat.beq q 5049 then true else false)) else (bif Nat.ble q 5053 then (bif Nat.beq q 5053 then true else false) else (bif Nat.beq q 6009 then true else false)))) else (bif Nat.ble q 6028 then (bif Nat.ble q 6018 then (bif Nat.ble q 6015 then (bif Nat.beq q 6015 then true else false) else (bif Nat.beq q 6018 then true else false)) else (bif Nat.ble q 6024 then (bif Nat.beq q 6024 then true else false) else (bif Nat.beq q 6028 then true else false))) else (bif Nat.ble q 6035 then (bif Nat.ble q 6031 then (bif Nat.beq q 6031 then true else false) else (bif Nat.beq q 6035 then true else false)) else (bif Nat.ble q 6039 then (bif Nat.beq q 6039 then true else false) else (bif Nat.ble q 6049 then (bif Nat.beq q 6049 then true else false) else (bif Nat.beq q 6081 then true else false)))))) else (bif Nat.ble q 7015 then (bif Nat.ble q 6265 then (bif Nat.ble q 6135 then (bif Nat.ble q 6096 then (bif Nat.beq q 6096 then true else false) else (bif Nat.beq q 6135 then true else false)) else (bif Nat.ble q 6227 then (bif Nat.beq q 6227 then true else false) else (bif Nat.beq q 6265 then true else false))) else (bif Nat.ble q 6316 then (bif Nat.ble q 6283 then (bif Nat.beq q 6283 then true else false) else (bif Nat.beq q 6316 then true else false)) else (bif Nat.ble q 7009 then (bif Nat.beq q 7009 then true else false) else (bif Nat.beq q 7015 then true else false)))) else (bif Nat.ble q 7029 then (bif Nat.ble q 7022 then (bif Nat.ble q 7019 then (bif Nat.beq q 7019 then true else false) else (bif Nat.beq q 7022 then true else false)) else (bif Nat.ble q 7025 then (bif Nat.beq q 7025 then true else false) else (bif Nat.beq q 7029 then true else false))) else (bif Nat.ble q 7115 then (bif Nat.ble q 7065 then (bif Nat.beq q 7065 then true else false) else (bif Nat.beq q 7115 then true else false)) else (bif Nat.ble q 8012 then (bif Nat.beq q 8012 then true else false) else (bif Nat.ble q 8023 then (bif Nat.beq q 8023 then true else false) else (bif Nat.beq q 8032 then true else false)))))))) else (bif Nat.ble q 12009 then (bif Nat.ble q 8091 then (bif Nat.ble q 8064 then (bif Nat.ble q 8051 then (bif Nat.ble q 8040 then (bif Nat.ble q 8036 then (bif Nat.beq q 8036 then true else false) else (bif Nat.beq q 8040 then true else false)) else (bif Nat.ble q 8044 then (bif Nat.beq q 8044 then true else false) else (bif Nat.beq q 8051 then true else false))) else (bif Nat.ble q 8058 then (bif Nat.ble q 8055 then (bif Nat.beq q 8055 then true else false) else (bif Nat.beq q 8058 then true else false)) else (bif Nat.ble q 8061 then (bif Nat.beq q 8061 then true else false) else (bif Nat.beq q 8064 then true else false)))) else (bif Nat.ble q 8076 then (bif Nat.ble q 8070 then (bif Nat.ble q 8067 then (bif Nat.beq q 8067 then true else false) else (bif Nat.beq q 8070 then true else false)) else (bif Nat.ble q 8073 then (bif Nat.beq q 8073 then true else false) else (bif Nat.beq q 8076 then true else false))) else (bif Nat.ble q 8082 then (bif Nat.ble q 8079 then (bif Nat.beq q 8079 then true else false) else (bif Nat.beq q 8082 then true else false)) else (bif Nat.ble q 8085 then (bif Nat.beq q 8085 then true else false) else (bif Nat.ble q 8088 then (bif Nat.beq q 8088 then true else false) else (bif Nat.beq q 8091 then true else false)))))) else (bif Nat.ble q 10009 then (bif Nat.ble q 8193 then (bif Nat.ble q 8110 then (bif Nat.ble q 8107 then (bif Nat.beq q 8107 then true else false) else (bif Nat.beq q 8110 then true else false)) else (bif Nat.ble q 8178 then (bif Nat.beq q 8178 then true else false) else (bif Nat.beq q 8193 then true else false))) else (bif Nat.ble q 9009 then (bif Nat.ble q 8197 then (bif Nat.beq q 8197 then true else false) else (bif Nat.beq q 9009 then true else false)) else (bif Nat.ble q 9015 then (bif Nat.beq q 9015 then true else false) else (bif Nat.beq q 10009 then true else false)))) else (bif Nat.ble q 10073 then (bif Nat.ble q 10034 then (bif Nat.ble q 10026 then (bif Nat.beq q 10026 then true else false) else (bif Nat.beq q 10034 then true else false)) else (bif Nat.ble q 10069 then (bif Nat.beq q 10069 then true else false) else (bif Nat.beq q 10073 then true else false))) else (bif Nat.ble q 11015 then (bif Nat.ble q 11009 then (bif Nat.beq q 11009 then true else false) else (bif Nat.beq q 11015 then true else false)) else (bif Nat.ble q 11018 then (bif Nat.beq q 11018 then true else false) else (bif Nat.ble q 11021 then (bif Nat.beq q 11021 then true else false) else (bif Nat.beq q 12009 then true else false))))))) else (bif Nat.ble q 14050 then (bif Nat.ble q 14021 then (bif Nat.ble q 13007 then (bif Nat.ble q 12018 then (bif Nat.ble q 12015 then (bif Nat.beq q 12015 then true else false) else (bif Nat.beq q 12018 then true else false)) else (bif Nat.ble q 12021 then (bif Nat.beq q 12021 then true else false) else (bif Nat.beq q 13007 then true else false))) else (bif Nat.ble q 14015 then (bif Nat.ble q 14011 then (bif Nat.beq q 14011 then true else false) else (bif Nat.beq q 14015 then true else false)) else (bif Nat.ble q 14018 then (bif Nat.beq q 14018 then true else false) else (bif Nat.beq q 14021 then true else false)))) else (bif Nat.ble q 14033 then (bif Nat.ble q 14027 then (bif Nat.ble q 14024 then (bif Nat.beq q 14024 then true else false) else (bif Nat.beq q 14027 then true else false)) else (bif Nat.ble q 14030 then (bif Nat.beq q 14030 then true else false) else (bif Nat.beq q 14033 then true else false))) else (bif Nat.ble q 14040 then (bif Nat.ble q 14036 then (bif Nat.beq q 14036 then true else false) else (bif Nat.beq q 14040 then true else false)) else (bif Nat.ble q 14043 then (bif Nat.beq q 14043 then true else false) else (bif Nat.ble q 14047 then (bif Nat.beq q 14047 then true else false) else (bif Nat.beq q 14050 then true else false)))))) else (bif Nat.ble q 15015 then (bif Nat.ble q 14062 then (bif Nat.ble q 14056 then (bif Nat.ble q 14053 then (bif Nat.beq q 14053 then true else false) else (bif Nat.beq q 14056 then true else false)) else (bif Nat.ble q 14059 then (bif Nat.beq q 14059 then true else false) else (bif Nat.beq q 14062 then true else false))) else (bif Nat.ble q 14068 then (bif Nat.ble q 14065 then (bif Nat.beq q 14065 then true else false) else (bif Nat.beq q 14068 then true else false)) else (bif Nat.ble q 14080 then (bif Nat.beq q 14080 then true else false) else (bif Nat.ble q 15009 then (bif Nat.beq q 15009 then true else false) else (bif Nat.beq q 15015 then true else false))))) else (bif Nat.ble q 15027 then (bif Nat.ble q 15021 then (bif Nat.ble q 15018 then (bif Nat.beq q 15018 then true else false) else (bif Nat.beq q 15021 then true else false)) else (bif Nat.ble q 15024 then (bif Nat.beq q 15024 then true else false) else (bif Nat.beq q 15027 then true else false))) else (bif Nat.ble q 15033 then (bif Nat.ble q 15030 then (bif Nat.beq q 15030 then true else false) else (bif Nat.beq q 15033 then true else false)) else (bif Nat.ble q 15037 then (bif Nat.beq q 15037 then true else false) else (bif Nat.ble q 15040 then (bif Nat.beq q 15040 then true else false) else (bif Nat.beq q 15043 then true else false))))))))) else (bif Nat.ble q 16293 then (bif Nat.ble q 16052 then (bif Nat.ble q 15095 then (bif Nat.ble q 15067 then (bif Nat.ble q 15055 then (bif Nat.ble q 15049 then (bif Nat.ble q 15046 then (bif Nat.beq q 15046 then true else false) else (bif Nat.beq q 15049 then true else false)) else (bif Nat.ble q 15052 then (bif Nat.beq q 15052 then true else false) else (bif Nat.beq q 15055 then true else false))) else (bif Nat.ble q 15061 then (bif Nat.ble q 15058 then (bif Nat.beq q 15058 then true else false) else (bif Nat.beq q 15061 then true else false)) else (bif Nat.ble q 15064 then (bif Nat.beq q 15064 then true else false) else (bif Nat.beq q 15067 then true else false)))) else (bif Nat.ble q 15079 then (bif Nat.ble q 15073 then (bif Nat.ble q 15070 then (bif Nat.beq q 15070 then true else false) else (bif Nat.beq q 15073 then true else false)) else (bif Nat.ble q 15076 then (bif Nat.beq q 15076 then true else false) else (bif Nat.beq q 15079 then true else false))) else (bif Nat.ble q 15085 then (bif Nat.ble q 15082 then (bif Nat.beq q 15082 then true else false) else (bif Nat.beq q 15085 then true else false)) else (bif Nat.ble q 15088 then (bif Nat.beq q 15088 then true else false) else (bif Nat.ble q 15092 then (bif Nat.beq q 15092 then true else false) else (bif Nat.beq q 15095 then true else false)))))) else (bif Nat.ble q 16023 then (bif Nat.ble q 15107 then (bif Nat.ble q 15101 then (bif Nat.ble q 15098 then (bif Nat.beq q 15098 then true else false) else (bif Nat.beq q 15101 then true else false)) else (bif Nat.ble q 15104 then (bif Nat.beq q 15104 then true else false) else (bif Nat.beq q 15107 then true else false))) else (bif Nat.ble q 16016 then (bif Nat.ble q 16012 then (bif Nat.beq q 16012 then true else false) else (bif Nat.beq q 16016 then true else false)) else (bif Nat.ble q 16019 then (bif Nat.beq q 16019 then true else false) else (bif Nat.beq q 16023 then true else false)))) else (bif Nat.ble q 16037 then (bif Nat.ble q 16030 then (bif Nat.ble q 16026 then (bif Nat.beq q 16026 then true else false) else (bif Nat.beq q 16030 then true else false)) else (bif Nat.ble q 16033 then (bif Nat.beq q 16033 then true else false) else (bif Nat.beq q 16037 then true else false))) else (bif Nat.ble q 16043 then (bif Nat.ble q 16040 then (bif Nat.beq q 16040 then true else false) else (bif Nat.beq q 16043 then true else false)) else (bif Nat.ble q 16046 then (bif Nat.beq q 16046 then true else false) else (bif Nat.ble q 16049 then (bif Nat.beq q 16049 then true else false) else (bif Nat.beq q 16052 then true else false))))))) else (bif Nat.ble q 16105 then (bif Nat.ble q 16077 then (bif Nat.ble q 16065 then (bif Nat.ble q 16058 then (bif Nat.ble q 16055 then (bif Nat.beq q 16055 then true else false) else (bif Nat.beq q 16058 then true else false)) else (bif Nat.ble q 16061 then (bif Nat.beq q 16061 then true else false) else (bif Nat.beq q 16065 then true else false))) else (bif Nat.ble q 16071 then (bif Nat.ble q 16068 then (bif Nat.beq q 16068 then true else false) else (bif Nat.beq q 16071 then true else false)) else (bif Nat.ble q 16074 then (bif Nat.beq q 16074 then true else false) else (bif Nat.beq q 16077 then true else false)))) else (bif Nat.ble q 16090 then (bif Nat.ble q 16084 then (bif Nat.ble q 16080 then (bif Nat.beq q 16080 then true else false) else (bif Nat.beq q 16084 then true else false)) else (bif Nat.ble q 16087 then (bif Nat.beq q 16087 then true else false) else (bif Nat.beq q 16090 then true else false))) else (bif Nat.ble q 16096 then (bif Nat.ble q 16093 then (bif Nat.beq q 16093 then true else false) else (bif Nat.beq q 16096 then true else false)) else (bif Nat.ble q 16099 then (bif Nat.beq q 16099 then true else false) else (bif Nat.ble q 16102 then (bif Nat.beq q 16102 then true else false) else (bif Nat.beq q 16105 then true else false)))))) else (bif Nat.ble q 16132 then (bif Nat.ble q 16117 then (bif Nat.ble q 16111 then (bif Nat.ble q 16108 then (bif Nat.beq q 16108 then true else false) else (bif Nat.beq q 16111 then true else false)) else (bif Nat.ble q 16114 then (bif Nat.beq q 16114 then true else false) else (bif Nat.beq q 16117 then true else false))) else (bif Nat.ble q 16123 then (bif Nat.ble q 16120 then (bif Nat.beq q 16120 then true else false) else (bif Nat.beq q 16123 then true else false)) else (bif Nat.ble q 16126 then (bif Nat.beq q 16126 then true else false) else (bif Nat.ble q 16129 then (bif Nat.beq q 16129 then true else false) else (bif Nat.beq q 16132 then true else false))))) else (bif Nat.ble q 16144 then (bif Nat.ble q 16138 then (bif Nat.ble q 16135 then (bif Nat.beq q 16135 then true else false) else (bif Nat.beq q 16138 then true else false)) else (bif Nat.ble q 16141 then (bif Nat.beq q 16141 then true else false) else (bif Nat.beq q 16144 then true else false))) else (bif Nat.ble q 16155 then (bif Nat.ble q 16152 then (bif Nat.beq q 16152 then true else false) else (bif Nat.beq q 16155 then true else false)) else (bif Nat.ble q 16194 then (bif Nat.beq q 16194 then true else false) else (bif Nat.ble q 16267 then (bif Nat.beq q 16267 then true else false) else (bif Nat.beq q 16293 then true else false)))))))) else (bif Nat.ble q 17040 then (bif Nat.ble q 16811 then (bif Nat.ble q 16495 then (bif Nat.ble q 16359 then (bif Nat.ble q 16353 then (bif Nat.ble q 16303 then (bif Nat.beq q 16303 then true else false) else (bif Nat.beq q 16353 then true else false)) else (bif Nat.ble q 16356 then (bif Nat.beq q 16356 then true else false) else (bif Nat.beq q 16359 then true else false))) else (bif Nat.ble q 16372 then (bif Nat.ble q 16362 then (bif Nat.beq q 16362 then true else false) else (bif Nat.beq q 16372 then true else false)) else (bif Nat.ble q 16453 then (bif Nat.beq q 16453 then true else false) else (bif Nat.beq q 16495 then true else false)))) else (bif Nat.ble q 16628 then (bif Nat.ble q 16585 then (bif Nat.ble q 16545 then (bif Nat.beq q 16545 then true else false) else (bif Nat.beq q 16585 then true else false)) else (bif Nat.ble q 16625 then (bif Nat.beq q 16625 then true else false) else (bif Nat.beq q 16628 then true else false))) else (bif Nat.ble q 16794 then (bif Nat.ble q 16632 then (bif Nat.beq q 16632 then true else false) else (bif Nat.beq q 16794 then true else false)) else (bif Nat.ble q 16805 then (bif Nat.beq q 16805 then true else false) else (bif Nat.ble q 16808 then (bif Nat.beq q 16808 then true else false) else (bif Nat.beq q 16811 then true else false)))))) else (bif Nat.ble q 17009 then (bif Nat.ble q 16823 then (bif Nat.ble q 16817 then (bif Nat.ble q 16814 then (bif Nat.beq q 16814 then true else false) else (bif Nat.beq q 16817 then true else false)) else (bif Nat.ble q 16820 then (bif Nat.beq q 16820 then true else false) else (bif Nat.beq q 16823 then true else false))) else (bif Nat.ble q 16835 then (bif Nat.ble q 16826 then (bif Nat.beq q 16826 then true else false) else (bif Nat.beq q 16835 then true else false)) else (bif Nat.ble q 16841 then (bif Nat.beq q 16841 then true else false) else (bif Nat.beq q 17009 then true else false)))) else (bif Nat.ble q 17024 then (bif Nat.ble q 17018 then (bif Nat.ble q 17015 then (bif Nat.beq q 17015 then true else false) else (bif Nat.beq q 17018 then true else false)) else (bif Nat.ble q 17021 then (bif Nat.beq q 17021 then true else false) else (bif Nat.beq q 17024 then true else false))) else (bif Nat.ble q 17030 then (bif Nat.ble q 17027 then (bif Nat.beq q 17027 then true else false) else (bif Nat.beq q 17030 then true else false)) else (bif Nat.ble q 17034 then (bif Nat.beq q 17034 then true else false) else (bif Nat.ble q 17037 then (bif Nat.beq q 17037 then true else false) else (bif Nat.beq q 17040 then true else false))))))) else (bif Nat.ble q 17091 then (bif Nat.ble q 17064 then (bif Nat.ble q 17052 then (bif Nat.ble q 17046 then (bif Nat.ble q 17043 then (bif Nat.beq q 17043 then true else false) else (bif Nat.beq q 17046 then true else false)) else (bif Nat.ble q 17049 then (bif Nat.beq q 17049 then true else false) else (bif Nat.beq q 17052 then true else false))) else (bif Nat.ble q 17058 then (bif Nat.ble q 17055 then (bif Nat.beq q 17055 then true else false) else (bif Nat.beq q 17058 then true else false)) else (bif Nat.ble q 17061 then (bif Nat.beq q 17061 then true else false) else (bif Nat.beq q 17064 then true else false)))) else (bif Nat.ble q 17076 then (bif Nat.ble q 17070 then (bif Nat.ble q 17067 then (bif Nat.beq q 17067 then true else false) else (bif Nat.beq q 17070 then true else false)) else (bif Nat.ble q 17073 then (bif Nat.beq q 17073 then true else false) else (bif Nat.beq q 17076 then true else false))) else (bif Nat.ble q 17082 then (bif Nat.ble q 17079 then (bif Nat.beq q 17079 then true else false) else (bif Nat.beq q 17082 then true else false)) else (bif Nat.ble q 17085 then (bif Nat.beq q 17085 then true else false) else (bif Nat.ble q 17088 then (bif Nat.beq q 17088 then true else false) else (bif Nat.beq q 17091 then true else false)))))) else (bif Nat.ble q 17120 then (bif Nat.ble q 17104 then (bif Nat.ble q 17098 then (bif Nat.ble q 17094 then (bif Nat.beq q 17094 then true else false) else (bif Nat.beq q 17098 then true else false)) else (bif Nat.ble q 17101 then (bif Nat.beq q 17101 then true else false) else (bif Nat.beq q 17104 then true else false))) else (bif Nat.ble q 17111 then (bif Nat.ble q 17108 then (bif Nat.beq q 17108 then true else false) else (bif Nat.beq q 17111 then true else false)) else (bif Nat.ble q 17114 then (bif Nat.beq q 17114 then true else false) else (bif Nat.ble q 17117 then (bif Nat.beq q 17117 then true else false) else (bif Nat.beq q 17120 then true else false))))) else (bif Nat.ble q 17132 then (bif Nat.ble q 17126 then (bif Nat.ble q 17123 then (bif Nat.beq q 17123 then true else false) else (bif Nat.beq q 17126 then true else false)) else (bif Nat.ble q 17129 then (bif Nat.beq q 17129 then true else false) else (bif Nat.beq q 17132 then true else false))) else (bif Nat.ble q 17138 then (bif Nat.ble q 17135 then (bif Nat.beq q 17135 then true else false) else (bif Nat.beq q 17138 then true else false)) else (bif Nat.ble q 17141 then (bif Nat.beq q 17141 then true else false) else (bif Nat.ble q 17144 then (bif Nat.beq q 17144 then true else false) else (bif Nat.beq q 17147 then true else false)))))))))
def gfP (q : Nat) (x : Nat × Nat × Nat × Nat × Nat) : Prop := fug q = true → gfOK (owS (q / 1000)) (q % 1000) x.1 x.2.1 x.2.2.1
def pfP (q : Nat) (x : Nat × Nat × Nat × Nat × Nat) : Prop := fup q = true → pfOK (owS (q / 1000)) (q % 1000) x.1 x.2.1 x.2.2.1 x.2.2.2.1 x.2.2.2.2
theorem gf_all {q : Nat} {x : Nat × Nat × Nat × Nat × Nat} : rfd q = some x → gfP q x := by
  unfold rfd
  exact tl_c (tl_c (tl_c (tl_c (tl_c (tl_c (tl_c (tl_c (tl_l (P := gfP) (K := 1010) (x := (1, 1, 0, 2, 1)) (fun _ => gf_1010)) (tl_c (tl_l (P := gfP) (K := 1021) (x := (1, 1, 1, 2, 1)) (fun _ => gf_1021)) (tl_l (P := gfP) (K := 1030) (x := (1, 1, 2, 2, 1)) (fun _ => gf_1030)))) (tl_c (tl_c (tl_l (P := gfP) (K := 1039) (x := (1, 1, 3, 2, 1)) (fun _ => gf_1039)) (tl_l (P := gfP) (K := 1046) (x := (1, 1, 4, 2, 1)) (fun _ => gf_1046))) (tl_c (tl_l (P := gfP) (K := 1053) (x := (1, 1, 5, 2, 1)) (fun _ => gf_1053)) (tl_l (P := gfP) (K := 1060) (x := (1, 1, 6, 2, 1)) (fun _ => gf_1060))))) (tl_c (tl_c (tl_l (P := gfP) (K := 1067) (x := (1, 1, 7, 2, 0)) (fun _ => gf_1067)) (tl_c (tl_l (P := gfP) (K := 1071) (x := (1, 1, 8, 2, 0)) (fun _ => gf_1071)) (tl_l (P := gfP) (K := 1074) (x := (1, 1, 10, 2, 1)) (fun _ => gf_1074)))) (tl_c (tl_c (tl_l (P := gfP) (K := 1078) (x := (1, 1, 13, 2, 1)) (fun _ => gf_1078)) (tl_l (P := gfP) (K := 1081) (x := (1, 1, 15, 2, 1)) (fun _ => gf_1081))) (tl_c (tl_l (P := gfP) (K := 1088) (x := (1, 1, 11, 0, 0)) (fun _ => gf_1088)) (tl_l (P := gfP) (K := 1092) (x := (1, 1, 12, 0, 0)) (fun _ => gf_1092)))))) (tl_c (tl_c (tl_c (tl_l (P := gfP) (K := 1100) (x := (1, 1, 14, 0, 0)) (fun _ => gf_1100)) (tl_c (tl_l (P := gfP) (K := 1119) (x := (2, 2, 1, 0, 0)) (fun _ => gf_1119)) (tl_l (P := gfP) (K := 1122) (x := (1, 1, 9, 3, 0)) (fun _ => gf_1122)))) (tl_c (tl_c (tl_l (P := gfP) (K := 1129) (x := (2, 2, 2, 0, 0)) (fun _ => gf_1129)) (tl_l (P := gfP) (K := 1132) (x := (15, 15, 17, 0, 0)) (fun _ => gf_1132))) (tl_c (tl_l (P := gfP) (K := 1135) (x := (15, 15, 24, 0, 0)) (fun _ => gf_1135)) (tl_l (P := gfP) (K := 1138) (x := (15, 15, 7, 0, 0)) (fun _ => gf_1138))))) (tl_c (tl_c (tl_l (P := gfP) (K := 1141) (x := (8, 8, 1, 2, 1)) (fun _ => gf_1141)) (tl_c (tl_l (P := gfP) (K := 1145) (x := (9, 9, 1, 0, 0)) (fun _ => gf_1145)) (tl_l (P := gfP) (K := 1148) (x := (15, 15, 0, 0, 0)) (fun _ => gf_1148)))) (tl_c (tl_c (tl_l (P := gfP) (K := 1159) (x := (8, 8, 6, 2, 1)) (fun _ => gf_1159)) (tl_l (P := gfP) (K := 1163) (x := (8, 8, 14, 2, 1)) (fun _ => gf_1163))) (tl_c (tl_l (P := gfP) (K := 1166) (x := (15, 15, 31, 0, 0)) (fun _ => gf_1166)) (tl_l (P := gfP) (K := 1169) (x := (8, 8, 4, 2, 1)) (fun _ => gf_1169))))))) (tl_c (tl_c (tl_c (tl_c (tl_l (P := gfP) (K := 1173) (x := (15, 15, 23, 2, 1)) (fun _ => gf_1173)) (tl_c (tl_l (P := gfP) (K := 1180) (x := (8, 8, 3, 2, 1)) (fun _ => gf_1180)) (tl_l (P := gfP) (K := 1184) (x := (12, 12, 0, 2, 1)) (fun _ => gf_1184)))) (tl_c (tl_c (tl_l (P := gfP) (K := 1192) (x := (12, 12, 1, 2, 1)) (fun _ => gf_1192)) (tl_l (P := gfP) (K := 1195) (x := (12, 12, 2, 2, 1)) (fun _ => gf_1195))) (tl_c (tl_l (P := gfP) (K := 1198) (x := (12, 12, 3, 2, 1)) (fun _ => gf_1198)) (tl_l (P := gfP) (K := 1200) (x := (12, 12, 4, 2, 1)) (fun _ => gf_1200))))) (tl_c (tl_c (tl_l (P := gfP) (K := 1203) (x := (12, 12, 5, 2, 1)) (fun _ => gf_1203)) (tl_c (tl_l (P := gfP) (K := 1206) (x := (12, 12, 6, 2, 1)) (fun _ => gf_1206)) (tl_l (P := gfP) (K := 1209) (x := (12, 12, 7, 2, 1)) (fun _ => gf_1209)))) (tl_c (tl_c (tl_l (P := gfP) (K := 1211) (x := (8, 8, 9, 2, 1)) (fun _ => gf_1211)) (tl_l (P := gfP) (K := 1215) (x := (13, 13, 4, 2, 1)) (fun _ => gf_1215))) (tl_c (tl_l (P := gfP) (K := 1220) (x := (13, 13, 1, 2, 1)) (fun _ => gf_1220)) (tl_l (P := gfP) (K := 1221) (x := (13, 13, 2, 2, 1)) (fun _ => gf_1221)))))) (tl_c (tl_c (tl_c (tl_l (P := gfP) (K := 1222) (x := (1, 1, 16, 0, 0)) (fun _ => gf_1222)) (tl_c (tl_l (P := gfP) (K := 1229) (x := (1, 1, 17, 0, 0)) (fun _ => gf_1229)) (tl_l (P := gfP) (K := 1232) (x := (1, 1, 18, 3, 0)) (fun _ => gf_1232)))) (tl_c (tl_c (tl_l (P := gfP) (K := 1235) (x := (14, 14, 16, 0, 0)) (fun _ => gf_1235)) (tl_l (P := gfP) (K := 1238) (x := (14, 14, 17, 0, 0)) (fun _ => gf_1238))) (tl_c (tl_l (P := gfP) (K := 1239) (x := (14, 14, 18, 0, 0)) (fun _ => gf_1239)) (tl_l (P := gfP) (K := 1241) (x := (14, 14, 15, 0, 0)) (fun _ => gf_1241))))) (tl_c (tl_c (tl_c (tl_l (P := gfP) (K := 1249) (x := (14, 14, 14, 2, 1)) (fun _ => gf_1249)) (tl_l (P := gfP) (K := 2010) (x := (2, 2, 0, 2, 1)) (fun _ => gf_2010))) (tl_c (tl_l (P := gfP) (K := 2016) (x := (2, 2, 1, 0, 0)) (fun h => by cases h)) (tl_l (P := gfP) (K := 2020) (x := (2, 2, 2, 0, 0)) (fun h => by cases h)))) (tl_c (tl_c (tl_l (P := gfP) (K := 3012) (x := (3, 3, 2, 2, 1)) (fun _ => gf_3012)) (tl_l (P := gfP) (K := 3018) (x := (3, 3, 3, 2, 1)) (fun _ => gf_3018))) (tl_c (tl_l (P := gfP) (K := 3021) (x := (3, 3, 0, 2, 1)) (fun _ => gf_3021)) (tl_l (P := gfP) (K := 3025) (x := (4, 4, 1, 0, 0)) (fun _ => gf_3025)))))))) (tl_c (tl_c (tl_c (tl_c (tl_c (tl_l (P := gfP) (K := 3029) (x := (3, 3, 1, 2, 0)) (fun _ => gf_3029)) (tl_c (tl_l (P := gfP) (K := 3066) (x := (4, 4, 0, 2, 0)) (fun _ => gf_3066)) (tl_l (P := gfP) (K := 4007) (x := (4, 4, 0, 2, 0)) (fun _ => gf_4007)))) (tl_c (tl_c (tl_l (P := gfP) (K := 4013) (x := (4, 4, 1, 0, 0)) (fun _ => gf_4013)) (tl_l (P := gfP) (K := 5012) (x := (5, 5, 3, 2, 1)) (fun _ => gf_5012))) (tl_c (tl_l (P := gfP) (K := 5018) (x := (5, 5, 4, 2, 1)) (fun _ => gf_5018)) (tl_l (P := gfP) (K := 5021) (x := (5, 5, 5, 2, 1)) (fun _ => gf_5021))))) (tl_c (tl_c (tl_l (P := gfP) (K := 5024) (x := (5, 5, 6, 2, 1)) (fun _ => gf_5024)) (tl_c (tl_l (P := gfP) (K := 5027) (x := (5, 5, 7, 2, 1)) (fun _ => gf_5027)) (tl_l (P := gfP) (K := 5030) (x := (5, 5, 8, 2, 1)) (fun _ => gf_5030)))) (tl_c (tl_c (tl_l (P := gfP) (K := 5033) (x := (5, 5, 9, 2, 1)) (fun _ => gf_5033)) (tl_l (P := gfP) (K := 5036) (x := (5, 5, 10, 2, 1)) (fun _ => gf_5036))) (tl_c (tl_l (P := gfP) (K := 5039) (x := (5, 5, 11, 2, 1)) (fun _ => gf_5039)) (tl_l (P := gfP) (K := 5042) (x := (5, 5, 12, 2, 1)) (fun _ => gf_5042)))))) (tl_c (tl_c (tl_c (tl_l (P := gfP) (K := 5045) (x := (5, 5, 0, 2, 1)) (fun _ => gf_5045)) (tl_c (tl_l (P := gfP) (K := 5049) (x := (5, 5, 1, 2, 1)) (fun _ => gf_5049)) (tl_l (P := gfP) (K := 5053) (x := (5, 5, 2, 0, 0)) (fun _ => gf_5053)))) (tl_c (tl_c (tl_l (P := gfP) (K := 5099) (x := (4, 4, 1, 0, 0)) (fun _ => gf_5099)) (tl_l (P := gfP) (K := 6009) (x := (6, 6, 4, 2, 1)) (fun _ => gf_6009))) (tl_c (tl_l (P := gfP) (K := 6015) (x := (6, 6, 5, 2, 1)) (fun _ => gf_6015)) (tl_l (P := gfP) (K := 6018) (x := (6, 6, 6, 2, 1)) (fun _ => gf_6018))))) (tl_c (tl_c (tl_c (tl_l (P := gfP) (K := 6024) (x := (6, 6, 7, 2, 1)) (fun _ => gf_6024)) (tl_l (P := gfP) (K := 6028) (x := (6, 6, 8, 2, 1)) (fun _ => gf_6028))) (tl_c (tl_l (P := gfP) (K := 6031) (x := (6, 6, 0, 2, 1)) (fun _ => gf_6031)) (tl_l (P := gfP) (K := 6035) (x := (6, 6, 1, 2, 1)) (fun _ => gf_6035)))) (tl_c (tl_c (tl_l (P := gfP) (K := 6039) (x := (6, 6, 2, 2, 1)) (fun _ => gf_6039)) (tl_l (P := gfP) (K := 6049) (x := (6, 6, 3, 2, 0)) (fun _ => gf_6049))) (tl_c (tl_l (P := gfP) (K := 6058) (x := (5, 5, 3, 2, 1)) (fun _ => gf_6058)) (tl_l (P := gfP) (K := 6063) (x := (4, 4, 1, 0, 0)) (fun _ => gf_6063))))))) (tl_c (tl_c (tl_c (tl_c (tl_l (P := gfP) (K := 6071) (x := (5, 5, 4, 2, 1)) (fun _ => gf_6071)) (tl_c (tl_l (P := gfP) (K := 6074) (x := (4, 4, 0, 2, 0)) (fun _ => gf_6074)) (tl_l (P := gfP) (K := 6081) (x := (15, 15, 7, 0, 0)) (fun _ => gf_6081)))) (tl_c (tl_c (tl_l (P := gfP) (K := 6096) (x := (15, 15, 0, 0, 0)) (fun _ => gf_6096)) (tl_l (P := gfP) (K := 6098) (x := (3, 3, 2, 2, 1)) (fun _ => gf_6098))) (tl_c (tl_l (P := gfP) (K := 6101) (x := (3, 3, 3, 2, 1)) (fun _ => gf_6101)) (tl_l (P := gfP) (K := 6119) (x := (15, 15, 1, 2, 1)) (fun _ => gf_6119))))) (tl_c (tl_c (tl_l (P := gfP) (K := 6135) (x := (15, 15, 2, 0, 0)) (fun _ => gf_6135)) (tl_c (tl_l (P := gfP) (K := 6138) (x := (15, 15, 3, 2, 1)) (fun _ => gf_6138)) (tl_l (P := gfP) (K := 6141) (x := (15, 15, 8, 2, 1)) (fun _ => gf_6141)))) (tl_c (tl_c (tl_l (P := gfP) (K := 6148) (x := (5, 5, 6, 2, 1)) (fun _ => gf_6148)) (tl_l (P := gfP) (K := 6151) (x := (5, 5, 5, 2, 1)) (fun _ => gf_6151))) (tl_c (tl_l (P := gfP) (K := 6168) (x := (15, 15, 4, 2, 1)) (fun _ => gf_6168)) (tl_l (P := gfP) (K := 6174) (x := (15, 15, 5, 2, 1)) (fun _ => gf_6174)))))) (tl_c (tl_c (tl_c (tl_l (P := gfP) (K := 6183) (x := (15, 15, 10, 2, 1)) (fun _ => gf_6183)) (tl_c (tl_l (P := gfP) (K := 6190) (x := (5, 5, 7, 2, 1)) (fun _ => gf_6190)) (tl_l (P := gfP) (K := 6193) (x := (15, 15, 12, 2, 1)) (fun _ => gf_6193)))) (tl_c (tl_c (tl_l (P := gfP) (K := 6199) (x := (15, 15, 13, 2, 1)) (fun _ => gf_6199)) (tl_l (P := gfP) (K := 6211) (x := (15, 15, 11, 2, 1)) (fun _ => gf_6211))) (tl_c (tl_l (P := gfP) (K := 6214) (x := (15, 15, 14, 2, 1)) (fun _ => gf_6214)) (tl_l (P := gfP) (K := 6217) (x := (15, 15, 9, 2, 1)) (fun _ => gf_6217))))) (tl_c (tl_c (tl_c (tl_l (P := gfP) (K := 6223) (x := (5, 5, 8, 2, 1)) (fun _ => gf_6223)) (tl_l (P := gfP) (K := 6227) (x := (15, 15, 17, 0, 0)) (fun _ => gf_6227))) (tl_c (tl_l (P := gfP) (K := 6228) (x := (5, 5, 10, 2, 1)) (fun _ => gf_6228)) (tl_l (P := gfP) (K := 6231) (x := (5, 5, 11, 2, 1)) (fun _ => gf_6231)))) (tl_c (tl_c (tl_l (P := gfP) (K := 6243) (x := (15, 15, 15, 2, 1)) (fun _ => gf_6243)) (tl_l (P := gfP) (K := 6249) (x := (5, 5, 12, 2, 1)) (fun _ => gf_6249))) (tl_c (tl_l (P := gfP) (K := 6256) (x := (15, 15, 16, 2, 1)) (fun _ => gf_6256)) (tl_l (P := gfP) (K := 6262) (x := (5, 5, 9, 2, 1)) (fun _ => gf_6262))))))))) (tl_c (tl_c (tl_c (tl_c (tl_c (tl_c (tl_l (P := gfP) (K := 6265) (x := (15, 15, 26, 0, 0)) (fun _ => gf_6265)) (tl_c (tl_l (P := gfP) (K := 6271) (x := (15, 15, 27, 2, 1)) (fun _ => gf_6271)) (tl_l (P := gfP) (K := 6274) (x := (15, 15, 28, 2, 1)) (fun _ => gf_6274)))) (tl_c (tl_c (tl_l (P := gfP) (K := 6277) (x := (15, 15, 29, 2, 1)) (fun _ => gf_6277)) (tl_l (P := gfP) (K := 6280) (x := (15, 15, 30, 2, 1)) (fun _ => gf_6280))) (tl_c (tl_l (P := gfP) (K := 6283) (x := (15, 15, 24, 0, 0)) (fun _ => gf_6283)) (tl_l (P := gfP) (K := 6286) (x := (15, 15, 18, 2, 1)) (fun _ => gf_6286))))) (tl_c (tl_c (tl_l (P := gfP) (K := 6289) (x := (15, 15, 21, 2, 1)) (fun _ => gf_6289)) (tl_c (tl_l (P := gfP) (K := 6292) (x := (15, 15, 22, 2, 1)) (fun _ => gf_6292)) (tl_l (P := gfP) (K := 6295) (x := (15, 15, 20, 2, 1)) (fun _ => gf_6295)))) (tl_c (tl_c (tl_l (P := gfP) (K := 6297) (x := (15, 15, 19, 2, 1)) (fun _ => gf_6297)) (tl_l (P := gfP) (K := 6303) (x := (15, 15, 25, 2, 1)) (fun _ => gf_6303))) (tl_c (tl_l (P := gfP) (K := 6316) (x := (15, 15, 31, 0, 0)) (fun _ => gf_6316)) (tl_l (P := gfP) (K := 6321) (x := (15, 15, 6, 2, 1)) (fun _ => gf_6321)))))) (tl_c (tl_c (tl_c (tl_l (P := gfP) (K := 7009) (x := (7, 7, 2, 2, 1)) (fun _ => gf_7009)) (tl_c (tl_l (P := gfP) (K := 7015) (x := (7, 7, 3, 2, 1)) (fun _ => gf_7015)) (tl_l (P := gfP) (K := 7019) (x := (7, 7, 4, 2, 1)) (fun _ => gf_7019)))) (tl_c (tl_c (tl_l (P := gfP) (K := 7022) (x := (7, 7, 5, 2, 1)) (fun _ => gf_7022)) (tl_l (P := gfP) (K := 7025) (x := (7, 7, 0, 2, 1)) (fun _ => gf_7025))) (tl_c (tl_l (P := gfP) (K := 7029) (x := (7, 7, 1, 2, 0)) (fun _ => gf_7029)) (tl_l (P := gfP) (K := 7033) (x := (15, 15, 7, 0, 0)) (fun _ => gf_7033))))) (tl_c (tl_c (tl_l (P := gfP) (K := 7039) (x := (15, 15, 26, 0, 0)) (fun _ => gf_7039)) (tl_c (tl_l (P := gfP) (K := 7042) (x := (15, 15, 22, 2, 1)) (fun _ => gf_7042)) (tl_l (P := gfP) (K := 7045) (x := (15, 15, 27, 2, 1)) (fun _ => gf_7045)))) (tl_c (tl_c (tl_l (P := gfP) (K := 7055) (x := (15, 15, 15, 2, 1)) (fun _ => gf_7055)) (tl_l (P := gfP) (K := 7058) (x := (15, 15, 16, 2, 1)) (fun _ => gf_7058))) (tl_c (tl_l (P := gfP) (K := 7065) (x := (7, 7, 7, 3, 0)) (fun _ => gf_7065)) (tl_l (P := gfP) (K := 7076) (x := (15, 15, 29, 2, 1)) (fun _ => gf_7076))))))) (tl_c (tl_c (tl_c (tl_c (tl_l (P := gfP) (K := 7079) (x := (15, 15, 21, 2, 1)) (fun _ => gf_7079)) (tl_c (tl_l (P := gfP) (K := 7088) (x := (15, 15, 23, 2, 1)) (fun _ => gf_7088)) (tl_l (P := gfP) (K := 7091) (x := (15, 15, 28, 2, 1)) (fun _ => gf_7091)))) (tl_c (tl_c (tl_l (P := gfP) (K := 7108) (x := (15, 15, 19, 2, 1)) (fun _ => gf_7108)) (tl_l (P := gfP) (K := 7111) (x := (15, 15, 11, 2, 1)) (fun _ => gf_7111))) (tl_c (tl_l (P := gfP) (K := 7114) (x := (15, 15, 12, 2, 1)) (fun _ => gf_7114)) (tl_l (P := gfP) (K := 7115) (x := (7, 7, 6, 0, 0)) (fun _ => gf_7115))))) (tl_c (tl_c (tl_l (P := gfP) (K := 7128) (x := (15, 15, 18, 2, 1)) (fun _ => gf_7128)) (tl_c (tl_l (P := gfP) (K := 7137) (x := (15, 15, 30, 2, 1)) (fun _ => gf_7137)) (tl_l (P := gfP) (K := 7146) (x := (15, 15, 25, 2, 1)) (fun _ => gf_7146)))) (tl_c (tl_c (tl_l (P := gfP) (K := 7152) (x := (15, 15, 4, 2, 1)) (fun _ => gf_7152)) (tl_l (P := gfP) (K := 7155) (x := (15, 15, 13, 2, 1)) (fun _ => gf_7155))) (tl_c (tl_l (P := gfP) (K := 7175) (x := (15, 15, 20, 2, 1)) (fun _ => gf_7175)) (tl_l (P := gfP) (K := 8012) (x := (8, 8, 1, 2, 1)) (fun _ => gf_8012)))))) (tl_c (tl_c (tl_c (tl_l (P := gfP) (K := 8023) (x := (8, 8, 2, 2, 1)) (fun _ => gf_8023)) (tl_c (tl_l (P := gfP) (K := 8032) (x := (8, 8, 3, 2, 1)) (fun _ => gf_8032)) (tl_l (P := gfP) (K := 8036) (x := (8, 8, 4, 2, 1)) (fun _ => gf_8036)))) (tl_c (tl_c (tl_l (P := gfP) (K := 8040) (x := (8, 8, 5, 2, 1)) (fun _ => gf_8040)) (tl_l (P := gfP) (K := 8044) (x := (8, 8, 6, 2, 1)) (fun _ => gf_8044))) (tl_c (tl_l (P := gfP) (K := 8051) (x := (8, 8, 7, 2, 1)) (fun _ => gf_8051)) (tl_l (P := gfP) (K := 8055) (x := (8, 8, 8, 2, 1)) (fun _ => gf_8055))))) (tl_c (tl_c (tl_c (tl_l (P := gfP) (K := 8058) (x := (8, 8, 9, 2, 1)) (fun _ => gf_8058)) (tl_l (P := gfP) (K := 8061) (x := (8, 8, 10, 2, 1)) (fun _ => gf_8061))) (tl_c (tl_l (P := gfP) (K := 8064) (x := (8, 8, 11, 2, 1)) (fun _ => gf_8064)) (tl_l (P := gfP) (K := 8067) (x := (8, 8, 12, 2, 1)) (fun _ => gf_8067)))) (tl_c (tl_c (tl_l (P := gfP) (K := 8070) (x := (8, 8, 13, 2, 1)) (fun _ => gf_8070)) (tl_l (P := gfP) (K := 8073) (x := (8, 8, 14, 2, 1)) (fun _ => gf_8073))) (tl_c (tl_l (P := gfP) (K := 8076) (x := (8, 8, 15, 2, 1)) (fun _ => gf_8076)) (tl_l (P := gfP) (K := 8079) (x := (8, 8, 16, 2, 1)) (fun _ => gf_8079)))))))) (tl_c (tl_c (tl_c (tl_c (tl_c (tl_l (P := gfP) (K := 8082) (x := (8, 8, 17, 2, 1)) (fun _ => gf_8082)) (tl_c (tl_l (P := gfP) (K := 8085) (x := (8, 8, 20, 2, 1)) (fun _ => gf_8085)) (tl_l (P := gfP) (K := 8088) (x := (8, 8, 21, 2, 1)) (fun _ => gf_8088)))) (tl_c (tl_c (tl_l (P := gfP) (K := 8091) (x := (8, 8, 0, 2, 0)) (fun _ => gf_8091)) (tl_l (P := gfP) (K := 8098) (x := (15, 15, 31, 0, 0)) (fun _ => gf_8098))) (tl_c (tl_l (P := gfP) (K := 8107) (x := (8, 8, 19, 0, 0)) (fun _ => gf_8107)) (tl_l (P := gfP) (K := 8110) (x := (8, 8, 18, 0, 0)) (fun _ => gf_8110))))) (tl_c (tl_c (tl_l (P := gfP) (K := 8117) (x := (15, 15, 17, 0, 0)) (fun _ => gf_8117)) (tl_c (tl_l (P := gfP) (K := 8120) (x := (15, 15, 18, 2, 1)) (fun _ => gf_8120)) (tl_l (P := gfP) (K := 8123) (x := (15, 15, 20, 2, 1)) (fun _ => gf_8123)))) (tl_c (tl_c (tl_l (P := gfP) (K := 8132) (x := (15, 15, 0, 0, 0)) (fun _ => gf_8132)) (tl_l (P := gfP) (K := 8139) (x := (15, 15, 24, 0, 0)) (fun _ => gf_8139))) (tl_c (tl_l (P := gfP) (K := 8142) (x := (15, 15, 25, 2, 1)) (fun _ => gf_8142)) (tl_l (P := gfP) (K := 8166) (x := (15, 15, 11, 2, 1)) (fun _ => gf_8166)))))) (tl_c (tl_c (tl_c (tl_l (P := gfP) (K := 8172) (x := (15, 15, 15, 2, 1)) (fun _ => gf_8172)) (tl_c (tl_l (P := gfP) (K := 8178) (x := (8, 8, 22, 0, 0)) (fun _ => gf_8178)) (tl_l (P := gfP) (K := 8193) (x := (8, 8, 23, 1, 0)) (fun _ => gf_8193)))) (tl_c (tl_c (tl_l (P := gfP) (K := 8197) (x := (8, 8, 24, 0, 0)) (fun _ => gf_8197)) (tl_l (P := gfP) (K := 8204) (x := (15, 15, 23, 2, 1)) (fun _ => gf_8204))) (tl_c (tl_l (P := gfP) (K := 8229) (x := (15, 15, 26, 0, 0)) (fun _ => gf_8229)) (tl_l (P := gfP) (K := 8232) (x := (15, 15, 27, 2, 1)) (fun _ => gf_8232))))) (tl_c (tl_c (tl_c (tl_l (P := gfP) (K := 8235) (x := (15, 15, 28, 2, 1)) (fun _ => gf_8235)) (tl_l (P := gfP) (K := 8238) (x := (15, 15, 30, 2, 1)) (fun _ => gf_8238))) (tl_c (tl_l (P := gfP) (K := 8243) (x := (15, 15, 29, 2, 1)) (fun _ => gf_8243)) (tl_l (P := gfP) (K := 8246) (x := (15, 15, 22, 2, 1)) (fun _ => gf_8246)))) (tl_c (tl_c (tl_l (P := gfP) (K := 8253) (x := (15, 15, 19, 2, 1)) (fun _ => gf_8253)) (tl_l (P := gfP) (K := 8265) (x := (12, 12, 4, 2, 1)) (fun _ => gf_8265))) (tl_c (tl_l (P := gfP) (K := 8283) (x := (12, 12, 1, 2, 1)) (fun _ => gf_8283)) (tl_l (P := gfP) (K := 8286) (x := (12, 12, 2, 2, 1)) (fun _ => gf_8286))))))) (tl_c (tl_c (tl_c (tl_c (tl_l (P := gfP) (K := 8293) (x := (10, 10, 1, 0, 0)) (fun _ => gf_8293)) (tl_c (tl_l (P := gfP) (K := 8295) (x := (10, 10, 2, 0, 0)) (fun _ => gf_8295)) (tl_l (P := gfP) (K := 8297) (x := (12, 12, 3, 2, 1)) (fun _ => gf_8297)))) (tl_c (tl_c (tl_l (P := gfP) (K := 8366) (x := (12, 12, 5, 2, 1)) (fun _ => gf_8366)) (tl_l (P := gfP) (K := 8369) (x := (12, 12, 6, 2, 1)) (fun _ => gf_8369))) (tl_c (tl_l (P := gfP) (K := 8372) (x := (12, 12, 7, 2, 1)) (fun _ => gf_8372)) (tl_l (P := gfP) (K := 8404) (x := (15, 15, 5, 2, 1)) (fun _ => gf_8404))))) (tl_c (tl_c (tl_l (P := gfP) (K := 8417) (x := (15, 15, 2, 0, 0)) (fun _ => gf_8417)) (tl_c (tl_l (P := gfP) (K := 8419) (x := (15, 15, 3, 2, 1)) (fun _ => gf_8419)) (tl_l (P := gfP) (K := 8425) (x := (15, 15, 4, 2, 1)) (fun _ => gf_8425)))) (tl_c (tl_c (tl_l (P := gfP) (K := 8437) (x := (13, 13, 4, 2, 1)) (fun _ => gf_8437)) (tl_l (P := gfP) (K := 8448) (x := (13, 13, 1, 2, 1)) (fun _ => gf_8448))) (tl_c (tl_l (P := gfP) (K := 8449) (x := (13, 13, 2, 2, 1)) (fun _ => gf_8449)) (tl_l (P := gfP) (K := 8457) (x := (15, 15, 13, 2, 1)) (fun _ => gf_8457)))))) (tl_c (tl_c (tl_c (tl_l (P := gfP) (K := 9009) (x := (9, 9, 0, 2, 0)) (fun _ => gf_9009)) (tl_c (tl_l (P := gfP) (K := 9015) (x := (9, 9, 1, 0, 0)) (fun _ => gf_9015)) (tl_l (P := gfP) (K := 10009) (x := (10, 10, 0, 2, 1)) (fun _ => gf_10009)))) (tl_c (tl_c (tl_l (P := gfP) (K := 10026) (x := (10, 10, 1, 0, 0)) (fun h => by cases h)) (tl_l (P := gfP) (K := 10034) (x := (10, 10, 2, 0, 0)) (fun h => by cases h))) (tl_c (tl_l (P := gfP) (K := 10069) (x := (10, 10, 3, 1, 0)) (fun _ => gf_10069)) (tl_l (P := gfP) (K := 10073) (x := (10, 10, 4, 1, 0)) (fun _ => gf_10073))))) (tl_c (tl_c (tl_c (tl_l (P := gfP) (K := 11009) (x := (12, 13, 0, 2, 1)) (fun _ => gf_11009)) (tl_l (P := gfP) (K := 11015) (x := (12, 13, 1, 2, 1)) (fun _ => gf_11015))) (tl_c (tl_l (P := gfP) (K := 11018) (x := (12, 13, 2, 2, 1)) (fun _ => gf_11018)) (tl_l (P := gfP) (K := 11021) (x := (12, 13, 3, 2, 1)) (fun _ => gf_11021)))) (tl_c (tl_c (tl_l (P := gfP) (K := 12009) (x := (12, 12, 4, 2, 1)) (fun _ => gf_12009)) (tl_l (P := gfP) (K := 12015) (x := (12, 12, 5, 2, 1)) (fun _ => gf_12015))) (tl_c (tl_l (P := gfP) (K := 12018) (x := (12, 12, 6, 2, 1)) (fun _ => gf_12018)) (tl_l (P := gfP) (K := 12021) (x := (12, 12, 7, 2, 1)) (fun _ => gf_12021)))))))))) (tl_c (tl_c (tl_c (tl_c (tl_c (tl_c (tl_c (tl_l (P := gfP) (K := 12032) (x := (12, 12, 0, 2, 1)) (fun _ => gf_12032)) (tl_c (tl_l (P := gfP) (K := 13007) (x := (13, 13, 4, 2, 1)) (fun _ => gf_13007)) (tl_l (P := gfP) (K := 14011) (x := (14, 14, 1, 2, 1)) (fun _ => gf_14011)))) (tl_c (tl_c (tl_l (P := gfP) (K := 14015) (x := (14, 14, 2, 2, 1)) (fun _ => gf_14015)) (tl_l (P := gfP) (K := 14018) (x := (14, 14, 3, 2, 1)) (fun _ => gf_14018))) (tl_c (tl_l (P := gfP) (K := 14021) (x := (14, 14, 4, 2, 1)) (fun _ => gf_14021)) (tl_l (P := gfP) (K := 14024) (x := (14, 14, 7, 2, 1)) (fun _ => gf_14024))))) (tl_c (tl_c (tl_l (P := gfP) (K := 14027) (x := (14, 14, 8, 2, 1)) (fun _ => gf_14027)) (tl_c (tl_l (P := gfP) (K := 14030) (x := (14, 14, 9, 2, 1)) (fun _ => gf_14030)) (tl_l (P := gfP) (K := 14033) (x := (14, 14, 14, 2, 1)) (fun _ => gf_14033)))) (tl_c (tl_c (tl_l (P := gfP) (K := 14036) (x := (14, 14, 0, 2, 0)) (fun _ => gf_14036)) (tl_l (P := gfP) (K := 14040) (x := (14, 14, 11, 2, 0)) (fun _ => gf_14040))) (tl_c (tl_l (P := gfP) (K := 14043) (x := (14, 14, 12, 0, 0)) (fun _ => gf_14043)) (tl_l (P := gfP) (K := 14047) (x := (14, 14, 13, 0, 0)) (fun _ => gf_14047)))))) (tl_c (tl_c (tl_c (tl_l (P := gfP) (K := 14050) (x := (14, 14, 15, 0, 0)) (fun _ => gf_14050)) (tl_c (tl_l (P := gfP) (K := 14053) (x := (14, 14, 16, 0, 0)) (fun _ => gf_14053)) (tl_l (P := gfP) (K := 14056) (x := (14, 14, 18, 0, 0)) (fun h => by cases h)))) (tl_c (tl_c (tl_l (P := gfP) (K := 14059) (x := (14, 14, 5, 0, 0)) (fun _ => gf_14059)) (tl_l (P := gfP) (K := 14062) (x := (14, 14, 6, 0, 0)) (fun _ => gf_14062))) (tl_c (tl_l (P := gfP) (K := 14065) (x := (14, 14, 10, 0, 0)) (fun _ => gf_14065)) (tl_l (P := gfP) (K := 14068) (x := (14, 14, 19, 0, 0)) (fun _ => gf_14068))))) (tl_c (tl_c (tl_l (P := gfP) (K := 14071) (x := (15, 15, 31, 0, 0)) (fun _ => gf_14071)) (tl_c (tl_l (P := gfP) (K := 14080) (x := (14, 14, 17, 0, 0)) (fun _ => gf_14080)) (tl_l (P := gfP) (K := 14086) (x := (15, 15, 15, 2, 1)) (fun _ => gf_14086)))) (tl_c (tl_c (tl_l (P := gfP) (K := 14089) (x := (15, 15, 25, 2, 1)) (fun _ => gf_14089)) (tl_l (P := gfP) (K := 14103) (x := (15, 15, 26, 0, 0)) (fun _ => gf_14103))) (tl_c (tl_l (P := gfP) (K := 14106) (x := (15, 15, 27, 2, 1)) (fun _ => gf_14106)) (tl_l (P := gfP) (K := 14109) (x := (15, 15, 28, 2, 1)) (fun _ => gf_14109))))))) (tl_c (tl_c (tl_c (tl_c (tl_l (P := gfP) (K := 14112) (x := (15, 15, 30, 2, 1)) (fun _ => gf_14112)) (tl_c (tl_l (P := gfP) (K := 14118) (x := (15, 15, 29, 2, 1)) (fun _ => gf_14118)) (tl_l (P := gfP) (K := 14121) (x := (15, 15, 18, 2, 1)) (fun _ => gf_14121)))) (tl_c (tl_c (tl_l (P := gfP) (K := 14150) (x := (15, 15, 19, 2, 1)) (fun _ => gf_14150)) (tl_l (P := gfP) (K := 14153) (x := (15, 15, 20, 2, 1)) (fun _ => gf_14153))) (tl_c (tl_l (P := gfP) (K := 14164) (x := (15, 15, 6, 2, 1)) (fun _ => gf_14164)) (tl_l (P := gfP) (K := 14180) (x := (15, 15, 5, 2, 1)) (fun _ => gf_14180))))) (tl_c (tl_c (tl_l (P := gfP) (K := 14197) (x := (15, 15, 11, 2, 1)) (fun _ => gf_14197)) (tl_c (tl_l (P := gfP) (K := 15009) (x := (15, 15, 1, 2, 1)) (fun _ => gf_15009)) (tl_l (P := gfP) (K := 15015) (x := (15, 15, 3, 2, 1)) (fun h => by cases h)))) (tl_c (tl_c (tl_l (P := gfP) (K := 15018) (x := (15, 15, 4, 2, 1)) (fun h => by cases h)) (tl_l (P := gfP) (K := 15021) (x := (15, 15, 5, 2, 1)) (fun h => by cases h))) (tl_c (tl_l (P := gfP) (K := 15024) (x := (15, 15, 6, 2, 1)) (fun _ => gf_15024)) (tl_l (P := gfP) (K := 15027) (x := (15, 15, 8, 2, 1)) (fun _ => gf_15027)))))) (tl_c (tl_c (tl_c (tl_l (P := gfP) (K := 15030) (x := (15, 15, 9, 2, 1)) (fun _ => gf_15030)) (tl_c (tl_l (P := gfP) (K := 15033) (x := (15, 15, 10, 2, 1)) (fun h => by cases h)) (tl_l (P := gfP) (K := 15037) (x := (15, 15, 11, 2, 1)) (fun _ => gf_15037)))) (tl_c (tl_c (tl_l (P := gfP) (K := 15040) (x := (15, 15, 12, 2, 1)) (fun h => by cases h)) (tl_l (P := gfP) (K := 15043) (x := (15, 15, 13, 2, 1)) (fun _ => gf_15043))) (tl_c (tl_l (P := gfP) (K := 15046) (x := (15, 15, 14, 2, 1)) (fun h => by cases h)) (tl_l (P := gfP) (K := 15049) (x := (15, 15, 15, 2, 1)) (fun h => by cases h))))) (tl_c (tl_c (tl_c (tl_l (P := gfP) (K := 15052) (x := (15, 15, 16, 2, 1)) (fun h => by cases h)) (tl_l (P := gfP) (K := 15055) (x := (15, 15, 18, 2, 1)) (fun _ => gf_15055))) (tl_c (tl_l (P := gfP) (K := 15058) (x := (15, 15, 19, 2, 1)) (fun _ => gf_15058)) (tl_l (P := gfP) (K := 15061) (x := (15, 15, 20, 2, 1)) (fun h => by cases h)))) (tl_c (tl_c (tl_l (P := gfP) (K := 15064) (x := (15, 15, 21, 2, 1)) (fun h => by cases h)) (tl_l (P := gfP) (K := 15067) (x := (15, 15, 22, 2, 1)) (fun h => by cases h))) (tl_c (tl_l (P := gfP) (K := 15070) (x := (15, 15, 23, 2, 1)) (fun h => by cases h)) (tl_l (P := gfP) (K := 15073) (x := (15, 15, 25, 2, 1)) (fun _ => gf_15073)))))))) (tl_c (tl_c (tl_c (tl_c (tl_c (tl_l (P := gfP) (K := 15076) (x := (15, 15, 27, 2, 1)) (fun h => by cases h)) (tl_c (tl_l (P := gfP) (K := 15079) (x := (15, 15, 28, 2, 1)) (fun h => by cases h)) (tl_l (P := gfP) (K := 15082) (x := (15, 15, 29, 2, 1)) (fun h => by cases h)))) (tl_c (tl_c (tl_l (P := gfP) (K := 15085) (x := (15, 15, 30, 2, 1)) (fun h => by cases h)) (tl_l (P := gfP) (K := 15088) (x := (15, 15, 0, 0, 0)) (fun h => by cases h))) (tl_c (tl_l (P := gfP) (K := 15092) (x := (15, 15, 2, 0, 0)) (fun h => by cases h)) (tl_l (P := gfP) (K := 15095) (x := (15, 15, 7, 0, 0)) (fun _ => gf_15095))))) (tl_c (tl_c (tl_l (P := gfP) (K := 15098) (x := (15, 15, 17, 0, 0)) (fun h => by cases h)) (tl_c (tl_l (P := gfP) (K := 15101) (x := (15, 15, 24, 0, 0)) (fun h => by cases h)) (tl_l (P := gfP) (K := 15104) (x := (15, 15, 26, 0, 0)) (fun h => by cases h)))) (tl_c (tl_c (tl_l (P := gfP) (K := 15107) (x := (15, 15, 31, 0, 0)) (fun h => by cases h)) (tl_l (P := gfP) (K := 16012) (x := (16, 16, 0, 2, 0)) (fun _ => gf_16012))) (tl_c (tl_l (P := gfP) (K := 16016) (x := (16, 16, 1, 2, 0)) (fun _ => gf_16016)) (tl_l (P := gfP) (K := 16019) (x := (16, 16, 3, 2, 1)) (fun _ => gf_16019)))))) (tl_c (tl_c (tl_c (tl_l (P := gfP) (K := 16023) (x := (16, 16, 6, 2, 1)) (fun _ => gf_16023)) (tl_c (tl_l (P := gfP) (K := 16026) (x := (16, 16, 8, 2, 1)) (fun _ => gf_16026)) (tl_l (P := gfP) (K := 16030) (x := (16, 16, 9, 2, 1)) (fun _ => gf_16030)))) (tl_c (tl_c (tl_l (P := gfP) (K := 16033) (x := (16, 16, 12, 0, 0)) (fun _ => gf_16033)) (tl_l (P := gfP) (K := 16037) (x := (16, 16, 13, 2, 1)) (fun _ => gf_16037))) (tl_c (tl_l (P := gfP) (K := 16040) (x := (16, 16, 14, 2, 1)) (fun _ => gf_16040)) (tl_l (P := gfP) (K := 16043) (x := (16, 16, 15, 2, 1)) (fun _ => gf_16043))))) (tl_c (tl_c (tl_c (tl_l (P := gfP) (K := 16046) (x := (16, 16, 16, 2, 1)) (fun _ => gf_16046)) (tl_l (P := gfP) (K := 16049) (x := (16, 16, 17, 2, 1)) (fun _ => gf_16049))) (tl_c (tl_l (P := gfP) (K := 16052) (x := (16, 16, 18, 2, 1)) (fun _ => gf_16052)) (tl_l (P := gfP) (K := 16055) (x := (16, 16, 20, 2, 1)) (fun _ => gf_16055)))) (tl_c (tl_c (tl_l (P := gfP) (K := 16058) (x := (16, 16, 21, 2, 1)) (fun _ => gf_16058)) (tl_l (P := gfP) (K := 16061) (x := (16, 16, 22, 2, 1)) (fun _ => gf_16061))) (tl_c (tl_l (P := gfP) (K := 16065) (x := (16, 16, 23, 2, 1)) (fun _ => gf_16065)) (tl_l (P := gfP) (K := 16068) (x := (16, 16, 24, 2, 1)) (fun _ => gf_16068))))))) (tl_c (tl_c (tl_c (tl_c (tl_l (P := gfP) (K := 16071) (x := (16, 16, 26, 2, 1)) (fun _ => gf_16071)) (tl_c (tl_l (P := gfP) (K := 16074) (x := (16, 16, 27, 2, 1)) (fun _ => gf_16074)) (tl_l (P := gfP) (K := 16077) (x := (16, 16, 28, 2, 1)) (fun _ => gf_16077)))) (tl_c (tl_c (tl_l (P := gfP) (K := 16080) (x := (16, 16, 29, 2, 1)) (fun _ => gf_16080)) (tl_l (P := gfP) (K := 16084) (x := (16, 16, 30, 2, 1)) (fun _ => gf_16084))) (tl_c (tl_l (P := gfP) (K := 16087) (x := (16, 16, 31, 2, 1)) (fun _ => gf_16087)) (tl_l (P := gfP) (K := 16090) (x := (16, 16, 32, 2, 1)) (fun _ => gf_16090))))) (tl_c (tl_c (tl_l (P := gfP) (K := 16093) (x := (16, 16, 33, 2, 1)) (fun _ => gf_16093)) (tl_c (tl_l (P := gfP) (K := 16096) (x := (16, 16, 34, 2, 1)) (fun _ => gf_16096)) (tl_l (P := gfP) (K := 16099) (x := (16, 16, 35, 2, 1)) (fun _ => gf_16099)))) (tl_c (tl_c (tl_l (P := gfP) (K := 16102) (x := (16, 16, 41, 2, 1)) (fun _ => gf_16102)) (tl_l (P := gfP) (K := 16105) (x := (16, 16, 42, 2, 1)) (fun _ => gf_16105))) (tl_c (tl_l (P := gfP) (K := 16108) (x := (16, 16, 43, 2, 1)) (fun _ => gf_16108)) (tl_l (P := gfP) (K := 16111) (x := (16, 16, 44, 2, 1)) (fun _ => gf_16111)))))) (tl_c (tl_c (tl_c (tl_l (P := gfP) (K := 16114) (x := (16, 16, 45, 2, 1)) (fun _ => gf_16114)) (tl_c (tl_l (P := gfP) (K := 16117) (x := (16, 16, 46, 2, 1)) (fun _ => gf_16117)) (tl_l (P := gfP) (K := 16120) (x := (16, 16, 47, 2, 1)) (fun _ => gf_16120)))) (tl_c (tl_c (tl_l (P := gfP) (K := 16123) (x := (16, 16, 48, 2, 1)) (fun _ => gf_16123)) (tl_l (P := gfP) (K := 16126) (x := (16, 16, 49, 2, 1)) (fun _ => gf_16126))) (tl_c (tl_l (P := gfP) (K := 16129) (x := (16, 16, 50, 2, 1)) (fun _ => gf_16129)) (tl_l (P := gfP) (K := 16132) (x := (16, 16, 51, 2, 1)) (fun _ => gf_16132))))) (tl_c (tl_c (tl_c (tl_l (P := gfP) (K := 16135) (x := (16, 16, 59, 0, 0)) (fun _ => gf_16135)) (tl_l (P := gfP) (K := 16138) (x := (16, 16, 60, 0, 0)) (fun _ => gf_16138))) (tl_c (tl_l (P := gfP) (K := 16141) (x := (16, 16, 4, 0, 0)) (fun _ => gf_16141)) (tl_l (P := gfP) (K := 16144) (x := (16, 16, 5, 0, 0)) (fun _ => gf_16144)))) (tl_c (tl_c (tl_l (P := gfP) (K := 16152) (x := (16, 16, 7, 0, 0)) (fun _ => gf_16152)) (tl_l (P := gfP) (K := 16155) (x := (16, 16, 10, 0, 0)) (fun _ => gf_16155))) (tl_c (tl_l (P := gfP) (K := 16194) (x := (16, 16, 11, 0, 0)) (fun _ => gf_16194)) (tl_l (P := gfP) (K := 16267) (x := (17, 17, 0, 0, 0)) (fun _ => gf_16267))))))))) (tl_c (tl_c (tl_c (tl_c (tl_c (tl_c (tl_l (P := gfP) (K := 16280) (x := (17, 17, 8, 2, 1)) (fun _ => gf_16280)) (tl_c (tl_l (P := gfP) (K := 16293) (x := (17, 17, 1, 0, 0)) (fun _ => gf_16293)) (tl_l (P := gfP) (K := 16296) (x := (17, 17, 10, 2, 1)) (fun _ => gf_16296)))) (tl_c (tl_c (tl_l (P := gfP) (K := 16303) (x := (17, 17, 2, 0, 0)) (fun _ => gf_16303)) (tl_l (P := gfP) (K := 16306) (x := (17, 17, 13, 2, 1)) (fun _ => gf_16306))) (tl_c (tl_l (P := gfP) (K := 16324) (x := (17, 17, 11, 2, 1)) (fun _ => gf_16324)) (tl_l (P := gfP) (K := 16334) (x := (17, 17, 14, 2, 1)) (fun _ => gf_16334))))) (tl_c (tl_c (tl_l (P := gfP) (K := 16340) (x := (17, 17, 16, 2, 1)) (fun _ => gf_16340)) (tl_c (tl_l (P := gfP) (K := 16343) (x := (17, 17, 17, 2, 1)) (fun _ => gf_16343)) (tl_l (P := gfP) (K := 16348) (x := (17, 17, 15, 2, 1)) (fun _ => gf_16348)))) (tl_c (tl_c (tl_l (P := gfP) (K := 16351) (x := (17, 17, 18, 2, 1)) (fun _ => gf_16351)) (tl_l (P := gfP) (K := 16353) (x := (17, 17, 3, 0, 0)) (fun _ => gf_16353))) (tl_c (tl_l (P := gfP) (K := 16356) (x := (17, 17, 4, 0, 0)) (fun _ => gf_16356)) (tl_l (P := gfP) (K := 16359) (x := (17, 17, 5, 0, 0)) (fun _ => gf_16359)))))) (tl_c (tl_c (tl_c (tl_l (P := gfP) (K := 16362) (x := (17, 17, 7, 0, 0)) (fun _ => gf_16362)) (tl_c (tl_l (P := gfP) (K := 16369) (x := (17, 17, 19, 2, 1)) (fun _ => gf_16369)) (tl_l (P := gfP) (K := 16372) (x := (16, 16, 19, 0, 0)) (fun _ => gf_16372)))) (tl_c (tl_c (tl_l (P := gfP) (K := 16378) (x := (17, 17, 20, 2, 1)) (fun _ => gf_16378)) (tl_l (P := gfP) (K := 16391) (x := (17, 17, 22, 2, 1)) (fun _ => gf_16391))) (tl_c (tl_l (P := gfP) (K := 16397) (x := (17, 17, 28, 2, 1)) (fun _ => gf_16397)) (tl_l (P := gfP) (K := 16400) (x := (17, 17, 29, 2, 1)) (fun _ => gf_16400))))) (tl_c (tl_c (tl_l (P := gfP) (K := 16403) (x := (17, 17, 30, 2, 1)) (fun _ => gf_16403)) (tl_c (tl_l (P := gfP) (K := 16406) (x := (17, 17, 31, 2, 1)) (fun _ => gf_16406)) (tl_l (P := gfP) (K := 16409) (x := (17, 17, 32, 2, 1)) (fun _ => gf_16409)))) (tl_c (tl_c (tl_l (P := gfP) (K := 16412) (x := (17, 17, 25, 2, 1)) (fun _ => gf_16412)) (tl_l (P := gfP) (K := 16414) (x := (17, 17, 23, 2, 1)) (fun _ => gf_16414))) (tl_c (tl_l (P := gfP) (K := 16417) (x := (17, 17, 24, 2, 1)) (fun _ => gf_16417)) (tl_l (P := gfP) (K := 16432) (x := (17, 17, 27, 2, 1)) (fun _ => gf_16432))))))) (tl_c (tl_c (tl_c (tl_c (tl_l (P := gfP) (K := 16438) (x := (17, 17, 33, 2, 1)) (fun _ => gf_16438)) (tl_c (tl_l (P := gfP) (K := 16444) (x := (17, 17, 9, 2, 1)) (fun _ => gf_16444)) (tl_l (P := gfP) (K := 16447) (x := (17, 17, 12, 2, 1)) (fun _ => gf_16447)))) (tl_c (tl_c (tl_l (P := gfP) (K := 16450) (x := (17, 17, 21, 2, 1)) (fun _ => gf_16450)) (tl_l (P := gfP) (K := 16453) (x := (17, 17, 6, 0, 0)) (fun _ => gf_16453))) (tl_c (tl_l (P := gfP) (K := 16474) (x := (17, 17, 26, 2, 1)) (fun _ => gf_16474)) (tl_l (P := gfP) (K := 16495) (x := (16, 16, 25, 0, 0)) (fun _ => gf_16495))))) (tl_c (tl_c (tl_l (P := gfP) (K := 16529) (x := (17, 17, 35, 2, 1)) (fun _ => gf_16529)) (tl_c (tl_l (P := gfP) (K := 16530) (x := (17, 17, 36, 2, 1)) (fun _ => gf_16530)) (tl_l (P := gfP) (K := 16531) (x := (17, 17, 37, 2, 1)) (fun _ => gf_16531)))) (tl_c (tl_c (tl_l (P := gfP) (K := 16532) (x := (17, 17, 38, 2, 1)) (fun _ => gf_16532)) (tl_l (P := gfP) (K := 16533) (x := (17, 17, 39, 2, 1)) (fun _ => gf_16533))) (tl_c (tl_l (P := gfP) (K := 16535) (x := (17, 17, 40, 2, 1)) (fun _ => gf_16535)) (tl_l (P := gfP) (K := 16536) (x := (17, 17, 41, 2, 1)) (fun _ => gf_16536)))))) (tl_c (tl_c (tl_c (tl_l (P := gfP) (K := 16537) (x := (17, 17, 42, 2, 1)) (fun _ => gf_16537)) (tl_c (tl_l (P := gfP) (K := 16538) (x := (17, 17, 43, 2, 1)) (fun _ => gf_16538)) (tl_l (P := gfP) (K := 16539) (x := (17, 17, 34, 2, 1)) (fun _ => gf_16539)))) (tl_c (tl_c (tl_l (P := gfP) (K := 16545) (x := (16, 16, 36, 3, 0)) (fun _ => gf_16545)) (tl_l (P := gfP) (K := 16576) (x := (17, 17, 46, 2, 1)) (fun _ => gf_16576))) (tl_c (tl_l (P := gfP) (K := 16579) (x := (17, 17, 47, 2, 1)) (fun _ => gf_16579)) (tl_l (P := gfP) (K := 16582) (x := (17, 17, 48, 2, 1)) (fun _ => gf_16582))))) (tl_c (tl_c (tl_c (tl_l (P := gfP) (K := 16585) (x := (16, 16, 37, 3, 0)) (fun _ => gf_16585)) (tl_l (P := gfP) (K := 16588) (x := (17, 17, 49, 2, 1)) (fun _ => gf_16588))) (tl_c (tl_l (P := gfP) (K := 16601) (x := (17, 17, 44, 2, 1)) (fun _ => gf_16601)) (tl_l (P := gfP) (K := 16604) (x := (17, 17, 45, 2, 1)) (fun _ => gf_16604)))) (tl_c (tl_c (tl_l (P := gfP) (K := 16607) (x := (17, 17, 50, 2, 1)) (fun _ => gf_16607)) (tl_l (P := gfP) (K := 16610) (x := (17, 17, 51, 2, 1)) (fun _ => gf_16610))) (tl_c (tl_l (P := gfP) (K := 16613) (x := (17, 17, 52, 2, 1)) (fun _ => gf_16613)) (tl_l (P := gfP) (K := 16625) (x := (16, 16, 39, 0, 0)) (fun _ => gf_16625)))))))) (tl_c (tl_c (tl_c (tl_c (tl_c (tl_l (P := gfP) (K := 16628) (x := (16, 16, 40, 1, 0)) (fun _ => gf_16628)) (tl_c (tl_l (P := gfP) (K := 16632) (x := (16, 16, 38, 3, 0)) (fun _ => gf_16632)) (tl_l (P := gfP) (K := 16794) (x := (16, 16, 2, 3, 0)) (fun _ => gf_16794)))) (tl_c (tl_c (tl_l (P := gfP) (K := 16805) (x := (16, 16, 55, 0, 0)) (fun _ => gf_16805)) (tl_l (P := gfP) (K := 16808) (x := (16, 16, 53, 0, 0)) (fun _ => gf_16808))) (tl_c (tl_l (P := gfP) (K := 16811) (x := (16, 16, 54, 0, 0)) (fun _ => gf_16811)) (tl_l (P := gfP) (K := 16814) (x := (16, 16, 56, 0, 0)) (fun _ => gf_16814))))) (tl_c (tl_c (tl_l (P := gfP) (K := 16817) (x := (16, 16, 57, 0, 0)) (fun _ => gf_16817)) (tl_c (tl_l (P := gfP) (K := 16820) (x := (16, 16, 58, 0, 0)) (fun _ => gf_16820)) (tl_l (P := gfP) (K := 16823) (x := (16, 16, 52, 0, 0)) (fun _ => gf_16823)))) (tl_c (tl_c (tl_l (P := gfP) (K := 16826) (x := (16, 16, 61, 0, 0)) (fun _ => gf_16826)) (tl_l (P := gfP) (K := 16835) (x := (16, 16, 63, 3, 0)) (fun _ => gf_16835))) (tl_c (tl_l (P := gfP) (K := 16841) (x := (16, 16, 62, 0, 0)) (fun _ => gf_16841)) (tl_l (P := gfP) (K := 17009) (x := (17, 17, 8, 2, 1)) (fun h => by cases h)))))) (tl_c (tl_c (tl_c (tl_l (P := gfP) (K := 17015) (x := (17, 17, 9, 2, 1)) (fun h => by cases h)) (tl_c (tl_l (P := gfP) (K := 17018) (x := (17, 17, 10, 2, 1)) (fun h => by cases h)) (tl_l (P := gfP) (K := 17021) (x := (17, 17, 11, 2, 1)) (fun h => by cases h)))) (tl_c (tl_c (tl_l (P := gfP) (K := 17024) (x := (17, 17, 12, 2, 1)) (fun h => by cases h)) (tl_l (P := gfP) (K := 17027) (x := (17, 17, 13, 2, 1)) (fun h => by cases h))) (tl_c (tl_l (P := gfP) (K := 17030) (x := (17, 17, 14, 2, 1)) (fun h => by cases h)) (tl_l (P := gfP) (K := 17034) (x := (17, 17, 15, 2, 1)) (fun h => by cases h))))) (tl_c (tl_c (tl_c (tl_l (P := gfP) (K := 17037) (x := (17, 17, 16, 2, 1)) (fun h => by cases h)) (tl_l (P := gfP) (K := 17040) (x := (17, 17, 17, 2, 1)) (fun h => by cases h))) (tl_c (tl_l (P := gfP) (K := 17043) (x := (17, 17, 18, 2, 1)) (fun h => by cases h)) (tl_l (P := gfP) (K := 17046) (x := (17, 17, 19, 2, 1)) (fun h => by cases h)))) (tl_c (tl_c (tl_l (P := gfP) (K := 17049) (x := (17, 17, 20, 2, 1)) (fun h => by cases h)) (tl_l (P := gfP) (K := 17052) (x := (17, 17, 21, 2, 1)) (fun h => by cases h))) (tl_c (tl_l (P := gfP) (K := 17055) (x := (17, 17, 22, 2, 1)) (fun h => by cases h)) (tl_l (P := gfP) (K := 17058) (x := (17, 17, 23, 2, 1)) (fun h => by cases h))))))) (tl_c (tl_c (tl_c (tl_c (tl_l (P := gfP) (K := 17061) (x := (17, 17, 24, 2, 1)) (fun h => by cases h)) (tl_c (tl_l (P := gfP) (K := 17064) (x := (17, 17, 25, 2, 1)) (fun h => by cases h)) (tl_l (P := gfP) (K := 17067) (x := (17, 17, 26, 2, 1)) (fun h => by cases h)))) (tl_c (tl_c (tl_l (P := gfP) (K := 17070) (x := (17, 17, 27, 2, 1)) (fun h => by cases h)) (tl_l (P := gfP) (K := 17073) (x := (17, 17, 28, 2, 1)) (fun h => by cases h))) (tl_c (tl_l (P := gfP) (K := 17076) (x := (17, 17, 29, 2, 1)) (fun h => by cases h)) (tl_l (P := gfP) (K := 17079) (x := (17, 17, 30, 2, 1)) (fun h => by cases h))))) (tl_c (tl_c (tl_l (P := gfP) (K := 17082) (x := (17, 17, 31, 2, 1)) (fun h => by cases h)) (tl_c (tl_l (P := gfP) (K := 17085) (x := (17, 17, 32, 2, 1)) (fun h => by cases h)) (tl_l (P := gfP) (K := 17088) (x := (17, 17, 33, 2, 1)) (fun h => by cases h)))) (tl_c (tl_c (tl_l (P := gfP) (K := 17091) (x := (17, 17, 34, 2, 1)) (fun h => by cases h)) (tl_l (P := gfP) (K := 17094) (x := (17, 17, 35, 2, 1)) (fun h => by cases h))) (tl_c (tl_l (P := gfP) (K := 17098) (x := (17, 17, 36, 2, 1)) (fun h => by cases h)) (tl_l (P := gfP) (K := 17101) (x := (17, 17, 37, 2, 1)) (fun h => by cases h)))))) (tl_c (tl_c (tl_c (tl_l (P := gfP) (K := 17104) (x := (17, 17, 38, 2, 1)) (fun h => by cases h)) (tl_c (tl_l (P := gfP) (K := 17108) (x := (17, 17, 39, 2, 1)) (fun h => by cases h)) (tl_l (P := gfP) (K := 17111) (x := (17, 17, 40, 2, 1)) (fun h => by cases h)))) (tl_c (tl_c (tl_l (P := gfP) (K := 17114) (x := (17, 17, 41, 2, 1)) (fun h => by cases h)) (tl_l (P := gfP) (K := 17117) (x := (17, 17, 42, 2, 1)) (fun h => by cases h))) (tl_c (tl_l (P := gfP) (K := 17120) (x := (17, 17, 43, 2, 1)) (fun h => by cases h)) (tl_l (P := gfP) (K := 17123) (x := (17, 17, 44, 2, 1)) (fun h => by cases h))))) (tl_c (tl_c (tl_c (tl_l (P := gfP) (K := 17126) (x := (17, 17, 45, 2, 1)) (fun h => by cases h)) (tl_l (P := gfP) (K := 17129) (x := (17, 17, 46, 2, 1)) (fun h => by cases h))) (tl_c (tl_l (P := gfP) (K := 17132) (x := (17, 17, 47, 2, 1)) (fun h => by cases h)) (tl_l (P := gfP) (K := 17135) (x := (17, 17, 48, 2, 1)) (fun h => by cases h)))) (tl_c (tl_c (tl_l (P := gfP) (K := 17138) (x := (17, 17, 49, 2, 1)) (fun h => by cases h)) (tl_l (P := gfP) (K := 17141) (x := (17, 17, 50, 2, 1)) (fun h => by cases h))) (tl_c (tl_l (P := gfP) (K := 17144) (x := (17, 17, 51, 2, 1)) (fun h => by cases h)) (tl_l (P := gfP) (K := 17147) (x := (17, 17, 52, 2, 1)) (fun h => by cases h))))))))))
theorem pf_all {q : Nat} {x : Nat × Nat × Nat × Nat × Nat} : rfd q = some x → pfP q x := by
  unfold rfd
  exact tl_c (tl_c (tl_c (tl_c (tl_c (tl_c (tl_c (tl_c (tl_l (P := pfP) (K := 1010) (x := (1, 1, 0, 2, 1)) (fun _ => pf_1010)) (tl_c (tl_l (P := pfP) (K := 1021) (x := (1, 1, 1, 2, 1)) (fun _ => pf_1021)) (tl_l (P := pfP) (K := 1030) (x := (1, 1, 2, 2, 1)) (fun _ => pf_1030)))) (tl_c (tl_c (tl_l (P := pfP) (K := 1039) (x := (1, 1, 3, 2, 1)) (fun _ => pf_1039)) (tl_l (P := pfP) (K := 1046) (x := (1, 1, 4, 2, 1)) (fun _ => pf_1046))) (tl_c (tl_l (P := pfP) (K := 1053) (x := (1, 1, 5, 2, 1)) (fun _ => pf_1053)) (tl_l (P := pfP) (K := 1060) (x := (1, 1, 6, 2, 1)) (fun _ => pf_1060))))) (tl_c (tl_c (tl_l (P := pfP) (K := 1067) (x := (1, 1, 7, 2, 0)) (fun _ => pf_1067)) (tl_c (tl_l (P := pfP) (K := 1071) (x := (1, 1, 8, 2, 0)) (fun _ => pf_1071)) (tl_l (P := pfP) (K := 1074) (x := (1, 1, 10, 2, 1)) (fun _ => pf_1074)))) (tl_c (tl_c (tl_l (P := pfP) (K := 1078) (x := (1, 1, 13, 2, 1)) (fun _ => pf_1078)) (tl_l (P := pfP) (K := 1081) (x := (1, 1, 15, 2, 1)) (fun _ => pf_1081))) (tl_c (tl_l (P := pfP) (K := 1088) (x := (1, 1, 11, 0, 0)) (fun _ => pf_1088)) (tl_l (P := pfP) (K := 1092) (x := (1, 1, 12, 0, 0)) (fun _ => pf_1092)))))) (tl_c (tl_c (tl_c (tl_l (P := pfP) (K := 1100) (x := (1, 1, 14, 0, 0)) (fun _ => pf_1100)) (tl_c (tl_l (P := pfP) (K := 1119) (x := (2, 2, 1, 0, 0)) (fun h => by cases h)) (tl_l (P := pfP) (K := 1122) (x := (1, 1, 9, 3, 0)) (fun _ => pf_1122)))) (tl_c (tl_c (tl_l (P := pfP) (K := 1129) (x := (2, 2, 2, 0, 0)) (fun h => by cases h)) (tl_l (P := pfP) (K := 1132) (x := (15, 15, 17, 0, 0)) (fun h => by cases h))) (tl_c (tl_l (P := pfP) (K := 1135) (x := (15, 15, 24, 0, 0)) (fun h => by cases h)) (tl_l (P := pfP) (K := 1138) (x := (15, 15, 7, 0, 0)) (fun h => by cases h))))) (tl_c (tl_c (tl_l (P := pfP) (K := 1141) (x := (8, 8, 1, 2, 1)) (fun h => by cases h)) (tl_c (tl_l (P := pfP) (K := 1145) (x := (9, 9, 1, 0, 0)) (fun h => by cases h)) (tl_l (P := pfP) (K := 1148) (x := (15, 15, 0, 0, 0)) (fun h => by cases h)))) (tl_c (tl_c (tl_l (P := pfP) (K := 1159) (x := (8, 8, 6, 2, 1)) (fun h => by cases h)) (tl_l (P := pfP) (K := 1163) (x := (8, 8, 14, 2, 1)) (fun h => by cases h))) (tl_c (tl_l (P := pfP) (K := 1166) (x := (15, 15, 31, 0, 0)) (fun h => by cases h)) (tl_l (P := pfP) (K := 1169) (x := (8, 8, 4, 2, 1)) (fun h => by cases h))))))) (tl_c (tl_c (tl_c (tl_c (tl_l (P := pfP) (K := 1173) (x := (15, 15, 23, 2, 1)) (fun h => by cases h)) (tl_c (tl_l (P := pfP) (K := 1180) (x := (8, 8, 3, 2, 1)) (fun h => by cases h)) (tl_l (P := pfP) (K := 1184) (x := (12, 12, 0, 2, 1)) (fun h => by cases h)))) (tl_c (tl_c (tl_l (P := pfP) (K := 1192) (x := (12, 12, 1, 2, 1)) (fun h => by cases h)) (tl_l (P := pfP) (K := 1195) (x := (12, 12, 2, 2, 1)) (fun h => by cases h))) (tl_c (tl_l (P := pfP) (K := 1198) (x := (12, 12, 3, 2, 1)) (fun h => by cases h)) (tl_l (P := pfP) (K := 1200) (x := (12, 12, 4, 2, 1)) (fun h => by cases h))))) (tl_c (tl_c (tl_l (P := pfP) (K := 1203) (x := (12, 12, 5, 2, 1)) (fun h => by cases h)) (tl_c (tl_l (P := pfP) (K := 1206) (x := (12, 12, 6, 2, 1)) (fun h => by cases h)) (tl_l (P := pfP) (K := 1209) (x := (12, 12, 7, 2, 1)) (fun h => by cases h)))) (tl_c (tl_c (tl_l (P := pfP) (K := 1211) (x := (8, 8, 9, 2, 1)) (fun h => by cases h)) (tl_l (P := pfP) (K := 1215) (x := (13, 13, 4, 2, 1)) (fun h => by cases h))) (tl_c (tl_l (P := pfP) (K := 1220) (x := (13, 13, 1, 2, 1)) (fun h => by cases h)) (tl_l (P := pfP) (K := 1221) (x := (13, 13, 2, 2, 1)) (fun h => by cases h)))))) (tl_c (tl_c (tl_c (tl_l (P := pfP) (K := 1222) (x := (1, 1, 16, 0, 0)) (fun _ => pf_1222)) (tl_c (tl_l (P := pfP) (K := 1229) (x := (1, 1, 17, 0, 0)) (fun _ => pf_1229)) (tl_l (P := pfP) (K := 1232) (x := (1, 1, 18, 3, 0)) (fun _ => pf_1232)))) (tl_c (tl_c (tl_l (P := pfP) (K := 1235) (x := (14, 14, 16, 0, 0)) (fun h => by cases h)) (tl_l (P := pfP) (K := 1238) (x := (14, 14, 17, 0, 0)) (fun h => by cases h))) (tl_c (tl_l (P := pfP) (K := 1239) (x := (14, 14, 18, 0, 0)) (fun h => by cases h)) (tl_l (P := pfP) (K := 1241) (x := (14, 14, 15, 0, 0)) (fun h => by cases h))))) (tl_c (tl_c (tl_c (tl_l (P := pfP) (K := 1249) (x := (14, 14, 14, 2, 1)) (fun h => by cases h)) (tl_l (P := pfP) (K := 2010) (x := (2, 2, 0, 2, 1)) (fun _ => pf_2010))) (tl_c (tl_l (P := pfP) (K := 2016) (x := (2, 2, 1, 0, 0)) (fun _ => pf_2016)) (tl_l (P := pfP) (K := 2020) (x := (2, 2, 2, 0, 0)) (fun _ => pf_2020)))) (tl_c (tl_c (tl_l (P := pfP) (K := 3012) (x := (3, 3, 2, 2, 1)) (fun _ => pf_3012)) (tl_l (P := pfP) (K := 3018) (x := (3, 3, 3, 2, 1)) (fun _ => pf_3018))) (tl_c (tl_l (P := pfP) (K := 3021) (x := (3, 3, 0, 2, 1)) (fun _ => pf_3021)) (tl_l (P := pfP) (K := 3025) (x := (4, 4, 1, 0, 0)) (fun h => by cases h)))))))) (tl_c (tl_c (tl_c (tl_c (tl_c (tl_l (P := pfP) (K := 3029) (x := (3, 3, 1, 2, 0)) (fun _ => pf_3029)) (tl_c (tl_l (P := pfP) (K := 3066) (x := (4, 4, 0, 2, 0)) (fun h => by cases h)) (tl_l (P := pfP) (K := 4007) (x := (4, 4, 0, 2, 0)) (fun _ => pf_4007)))) (tl_c (tl_c (tl_l (P := pfP) (K := 4013) (x := (4, 4, 1, 0, 0)) (fun _ => pf_4013)) (tl_l (P := pfP) (K := 5012) (x := (5, 5, 3, 2, 1)) (fun _ => pf_5012))) (tl_c (tl_l (P := pfP) (K := 5018) (x := (5, 5, 4, 2, 1)) (fun _ => pf_5018)) (tl_l (P := pfP) (K := 5021) (x := (5, 5, 5, 2, 1)) (fun _ => pf_5021))))) (tl_c (tl_c (tl_l (P := pfP) (K := 5024) (x := (5, 5, 6, 2, 1)) (fun _ => pf_5024)) (tl_c (tl_l (P := pfP) (K := 5027) (x := (5, 5, 7, 2, 1)) (fun _ => pf_5027)) (tl_l (P := pfP) (K := 5030) (x := (5, 5, 8, 2, 1)) (fun _ => pf_5030)))) (tl_c (tl_c (tl_l (P := pfP) (K := 5033) (x := (5, 5, 9, 2, 1)) (fun _ => pf_5033)) (tl_l (P := pfP) (K := 5036) (x := (5, 5, 10, 2, 1)) (fun _ => pf_5036))) (tl_c (tl_l (P := pfP) (K := 5039) (x := (5, 5, 11, 2, 1)) (fun _ => pf_5039)) (tl_l (P := pfP) (K := 5042) (x := (5, 5, 12, 2, 1)) (fun _ => pf_5042)))))) (tl_c (tl_c (tl_c (tl_l (P := pfP) (K := 5045) (x := (5, 5, 0, 2, 1)) (fun _ => pf_5045)) (tl_c (tl_l (P := pfP) (K := 5049) (x := (5, 5, 1, 2, 1)) (fun _ => pf_5049)) (tl_l (P := pfP) (K := 5053) (x := (5, 5, 2, 0, 0)) (fun _ => pf_5053)))) (tl_c (tl_c (tl_l (P := pfP) (K := 5099) (x := (4, 4, 1, 0, 0)) (fun h => by cases h)) (tl_l (P := pfP) (K := 6009) (x := (6, 6, 4, 2, 1)) (fun _ => pf_6009))) (tl_c (tl_l (P := pfP) (K := 6015) (x := (6, 6, 5, 2, 1)) (fun _ => pf_6015)) (tl_l (P := pfP) (K := 6018) (x := (6, 6, 6, 2, 1)) (fun _ => pf_6018))))) (tl_c (tl_c (tl_c (tl_l (P := pfP) (K := 6024) (x := (6, 6, 7, 2, 1)) (fun _ => pf_6024)) (tl_l (P := pfP) (K := 6028) (x := (6, 6, 8, 2, 1)) (fun _ => pf_6028))) (tl_c (tl_l (P := pfP) (K := 6031) (x := (6, 6, 0, 2, 1)) (fun _ => pf_6031)) (tl_l (P := pfP) (K := 6035) (x := (6, 6, 1, 2, 1)) (fun _ => pf_6035)))) (tl_c (tl_c (tl_l (P := pfP) (K := 6039) (x := (6, 6, 2, 2, 1)) (fun _ => pf_6039)) (tl_l (P := pfP) (K := 6049) (x := (6, 6, 3, 2, 0)) (fun _ => pf_6049))) (tl_c (tl_l (P := pfP) (K := 6058) (x := (5, 5, 3, 2, 1)) (fun h => by cases h)) (tl_l (P := pfP) (K := 6063) (x := (4, 4, 1, 0, 0)) (fun h => by cases h))))))) (tl_c (tl_c (tl_c (tl_c (tl_l (P := pfP) (K := 6071) (x := (5, 5, 4, 2, 1)) (fun h => by cases h)) (tl_c (tl_l (P := pfP) (K := 6074) (x := (4, 4, 0, 2, 0)) (fun h => by cases h)) (tl_l (P := pfP) (K := 6081) (x := (15, 15, 7, 0, 0)) (fun _ => pf_6081)))) (tl_c (tl_c (tl_l (P := pfP) (K := 6096) (x := (15, 15, 0, 0, 0)) (fun _ => pf_6096)) (tl_l (P := pfP) (K := 6098) (x := (3, 3, 2, 2, 1)) (fun h => by cases h))) (tl_c (tl_l (P := pfP) (K := 6101) (x := (3, 3, 3, 2, 1)) (fun h => by cases h)) (tl_l (P := pfP) (K := 6119) (x := (15, 15, 1, 2, 1)) (fun h => by cases h))))) (tl_c (tl_c (tl_l (P := pfP) (K := 6135) (x := (15, 15, 2, 0, 0)) (fun _ => pf_6135)) (tl_c (tl_l (P := pfP) (K := 6138) (x := (15, 15, 3, 2, 1)) (fun h => by cases h)) (tl_l (P := pfP) (K := 6141) (x := (15, 15, 8, 2, 1)) (fun h => by cases h)))) (tl_c (tl_c (tl_l (P := pfP) (K := 6148) (x := (5, 5, 6, 2, 1)) (fun h => by cases h)) (tl_l (P := pfP) (K := 6151) (x := (5, 5, 5, 2, 1)) (fun h => by cases h))) (tl_c (tl_l (P := pfP) (K := 6168) (x := (15, 15, 4, 2, 1)) (fun h => by cases h)) (tl_l (P := pfP) (K := 6174) (x := (15, 15, 5, 2, 1)) (fun h => by cases h)))))) (tl_c (tl_c (tl_c (tl_l (P := pfP) (K := 6183) (x := (15, 15, 10, 2, 1)) (fun h => by cases h)) (tl_c (tl_l (P := pfP) (K := 6190) (x := (5, 5, 7, 2, 1)) (fun h => by cases h)) (tl_l (P := pfP) (K := 6193) (x := (15, 15, 12, 2, 1)) (fun h => by cases h)))) (tl_c (tl_c (tl_l (P := pfP) (K := 6199) (x := (15, 15, 13, 2, 1)) (fun h => by cases h)) (tl_l (P := pfP) (K := 6211) (x := (15, 15, 11, 2, 1)) (fun h => by cases h))) (tl_c (tl_l (P := pfP) (K := 6214) (x := (15, 15, 14, 2, 1)) (fun h => by cases h)) (tl_l (P := pfP) (K := 6217) (x := (15, 15, 9, 2, 1)) (fun h => by cases h))))) (tl_c (tl_c (tl_c (tl_l (P := pfP) (K := 6223) (x := (5, 5, 8, 2, 1)) (fun h => by cases h)) (tl_l (P := pfP) (K := 6227) (x := (15, 15, 17, 0, 0)) (fun _ => pf_6227))) (tl_c (tl_l (P := pfP) (K := 6228) (x := (5, 5, 10, 2, 1)) (fun h => by cases h)) (tl_l (P := pfP) (K := 6231) (x := (5, 5, 11, 2, 1)) (fun h => by cases h)))) (tl_c (tl_c (tl_l (P := pfP) (K := 6243) (x := (15, 15, 15, 2, 1)) (fun h => by cases h)) (tl_l (P := pfP) (K := 6249) (x := (5, 5, 12, 2, 1)) (fun h => by cases h))) (tl_c (tl_l (P := pfP) (K := 6256) (x := (15, 15, 16, 2, 1)) (fun h => by cases h)) (tl_l (P := pfP) (K := 6262) (x := (5, 5, 9, 2, 1)) (fun h => by cases h))))))))) (tl_c (tl_c (tl_c (tl_c (tl_c (tl_c (tl_l (P := pfP) (K := 6265) (x := (15, 15, 26, 0, 0)) (fun _ => pf_6265)) (tl_c (tl_l (P := pfP) (K := 6271) (x := (15, 15, 27, 2, 1)) (fun h => by cases h)) (tl_l (P := pfP) (K := 6274) (x := (15, 15, 28, 2, 1)) (fun h => by cases h)))) (tl_c (tl_c (tl_l (P := pfP) (K := 6277) (x := (15, 15, 29, 2, 1)) (fun h => by cases h)) (tl_l (P := pfP) (K := 6280) (x := (15, 15, 30, 2, 1)) (fun h => by cases h))) (tl_c (tl_l (P := pfP) (K := 6283) (x := (15, 15, 24, 0, 0)) (fun _ => pf_6283)) (tl_l (P := pfP) (K := 6286) (x := (15, 15, 18, 2, 1)) (fun h => by cases h))))) (tl_c (tl_c (tl_l (P := pfP) (K := 6289) (x := (15, 15, 21, 2, 1)) (fun h => by cases h)) (tl_c (tl_l (P := pfP) (K := 6292) (x := (15, 15, 22, 2, 1)) (fun h => by cases h)) (tl_l (P := pfP) (K := 6295) (x := (15, 15, 20, 2, 1)) (fun h => by cases h)))) (tl_c (tl_c (tl_l (P := pfP) (K := 6297) (x := (15, 15, 19, 2, 1)) (fun h => by cases h)) (tl_l (P := pfP) (K := 6303) (x := (15, 15, 25, 2, 1)) (fun h => by cases h))) (tl_c (tl_l (P := pfP) (K := 6316) (x := (15, 15, 31, 0, 0)) (fun _ => pf_6316)) (tl_l (P := pfP) (K := 6321) (x := (15, 15, 6, 2, 1)) (fun h => by cases h)))))) (tl_c (tl_c (tl_c (tl_l (P := pfP) (K := 7009) (x := (7, 7, 2, 2, 1)) (fun _ => pf_7009)) (tl_c (tl_l (P := pfP) (K := 7015) (x := (7, 7, 3, 2, 1)) (fun _ => pf_7015)) (tl_l (P := pfP) (K := 7019) (x := (7, 7, 4, 2, 1)) (fun _ => pf_7019)))) (tl_c (tl_c (tl_l (P := pfP) (K := 7022) (x := (7, 7, 5, 2, 1)) (fun _ => pf_7022)) (tl_l (P := pfP) (K := 7025) (x := (7, 7, 0, 2, 1)) (fun _ => pf_7025))) (tl_c (tl_l (P := pfP) (K := 7029) (x := (7, 7, 1, 2, 0)) (fun _ => pf_7029)) (tl_l (P := pfP) (K := 7033) (x := (15, 15, 7, 0, 0)) (fun h => by cases h))))) (tl_c (tl_c (tl_l (P := pfP) (K := 7039) (x := (15, 15, 26, 0, 0)) (fun h => by cases h)) (tl_c (tl_l (P := pfP) (K := 7042) (x := (15, 15, 22, 2, 1)) (fun h => by cases h)) (tl_l (P := pfP) (K := 7045) (x := (15, 15, 27, 2, 1)) (fun h => by cases h)))) (tl_c (tl_c (tl_l (P := pfP) (K := 7055) (x := (15, 15, 15, 2, 1)) (fun h => by cases h)) (tl_l (P := pfP) (K := 7058) (x := (15, 15, 16, 2, 1)) (fun h => by cases h))) (tl_c (tl_l (P := pfP) (K := 7065) (x := (7, 7, 7, 3, 0)) (fun _ => pf_7065)) (tl_l (P := pfP) (K := 7076) (x := (15, 15, 29, 2, 1)) (fun h => by cases h))))))) (tl_c (tl_c (tl_c (tl_c (tl_l (P := pfP) (K := 7079) (x := (15, 15, 21, 2, 1)) (fun h => by cases h)) (tl_c (tl_l (P := pfP) (K := 7088) (x := (15, 15, 23, 2, 1)) (fun h => by cases h)) (tl_l (P := pfP) (K := 7091) (x := (15, 15, 28, 2, 1)) (fun h => by cases h)))) (tl_c (tl_c (tl_l (P := pfP) (K := 7108) (x := (15, 15, 19, 2, 1)) (fun h => by cases h)) (tl_l (P := pfP) (K := 7111) (x := (15, 15, 11, 2, 1)) (fun h => by cases h))) (tl_c (tl_l (P := pfP) (K := 7114) (x := (15, 15, 12, 2, 1)) (fun h => by cases h)) (tl_l (P := pfP) (K := 7115) (x := (7, 7, 6, 0, 0)) (fun _ => pf_7115))))) (tl_c (tl_c (tl_l (P := pfP) (K := 7128) (x := (15, 15, 18, 2, 1)) (fun h => by cases h)) (tl_c (tl_l (P := pfP) (K := 7137) (x := (15, 15, 30, 2, 1)) (fun h => by cases h)) (tl_l (P := pfP) (K := 7146) (x := (15, 15, 25, 2, 1)) (fun h => by cases h)))) (tl_c (tl_c (tl_l (P := pfP) (K := 7152) (x := (15, 15, 4, 2, 1)) (fun h => by cases h)) (tl_l (P := pfP) (K := 7155) (x := (15, 15, 13, 2, 1)) (fun h => by cases h))) (tl_c (tl_l (P := pfP) (K := 7175) (x := (15, 15, 20, 2, 1)) (fun h => by cases h)) (tl_l (P := pfP) (K := 8012) (x := (8, 8, 1, 2, 1)) (fun _ => pf_8012)))))) (tl_c (tl_c (tl_c (tl_l (P := pfP) (K := 8023) (x := (8, 8, 2, 2, 1)) (fun _ => pf_8023)) (tl_c (tl_l (P := pfP) (K := 8032) (x := (8, 8, 3, 2, 1)) (fun _ => pf_8032)) (tl_l (P := pfP) (K := 8036) (x := (8, 8, 4, 2, 1)) (fun _ => pf_8036)))) (tl_c (tl_c (tl_l (P := pfP) (K := 8040) (x := (8, 8, 5, 2, 1)) (fun _ => pf_8040)) (tl_l (P := pfP) (K := 8044) (x := (8, 8, 6, 2, 1)) (fun _ => pf_8044))) (tl_c (tl_l (P := pfP) (K := 8051) (x := (8, 8, 7, 2, 1)) (fun _ => pf_8051)) (tl_l (P := pfP) (K := 8055) (x := (8, 8, 8, 2, 1)) (fun _ => pf_8055))))) (tl_c (tl_c (tl_c (tl_l (P := pfP) (K := 8058) (x := (8, 8, 9, 2, 1)) (fun _ => pf_8058)) (tl_l (P := pfP) (K := 8061) (x := (8, 8, 10, 2, 1)) (fun _ => pf_8061))) (tl_c (tl_l (P := pfP) (K := 8064) (x := (8, 8, 11, 2, 1)) (fun _ => pf_8064)) (tl_l (P := pfP) (K := 8067) (x := (8, 8, 12, 2, 1)) (fun _ => pf_8067)))) (tl_c (tl_c (tl_l (P := pfP) (K := 8070) (x := (8, 8, 13, 2, 1)) (fun _ => pf_8070)) (tl_l (P := pfP) (K := 8073) (x := (8, 8, 14, 2, 1)) (fun _ => pf_8073))) (tl_c (tl_l (P := pfP) (K := 8076) (x := (8, 8, 15, 2, 1)) (fun _ => pf_8076)) (tl_l (P := pfP) (K := 8079) (x := (8, 8, 16, 2, 1)) (fun _ => pf_8079)))))))) (tl_c (tl_c (tl_c (tl_c (tl_c (tl_l (P := pfP) (K := 8082) (x := (8, 8, 17, 2, 1)) (fun _ => pf_8082)) (tl_c (tl_l (P := pfP) (K := 8085) (x := (8, 8, 20, 2, 1)) (fun _ => pf_8085)) (tl_l (P := pfP) (K := 8088) (x := (8, 8, 21, 2, 1)) (fun _ => pf_8088)))) (tl_c (tl_c (tl_l (P := pfP) (K := 8091) (x := (8, 8, 0, 2, 0)) (fun _ => pf_8091)) (tl_l (P := pfP) (K := 8098) (x := (15, 15, 31, 0, 0)) (fun h => by cases h))) (tl_c (tl_l (P := pfP) (K := 8107) (x := (8, 8, 19, 0, 0)) (fun _ => pf_8107)) (tl_l (P := pfP) (K := 8110) (x := (8, 8, 18, 0, 0)) (fun _ => pf_8110))))) (tl_c (tl_c (tl_l (P := pfP) (K := 8117) (x := (15, 15, 17, 0, 0)) (fun h => by cases h)) (tl_c (tl_l (P := pfP) (K := 8120) (x := (15, 15, 18, 2, 1)) (fun h => by cases h)) (tl_l (P := pfP) (K := 8123) (x := (15, 15, 20, 2, 1)) (fun h => by cases h)))) (tl_c (tl_c (tl_l (P := pfP) (K := 8132) (x := (15, 15, 0, 0, 0)) (fun h => by cases h)) (tl_l (P := pfP) (K := 8139) (x := (15, 15, 24, 0, 0)) (fun h => by cases h))) (tl_c (tl_l (P := pfP) (K := 8142) (x := (15, 15, 25, 2, 1)) (fun h => by cases h)) (tl_l (P := pfP) (K := 8166) (x := (15, 15, 11, 2, 1)) (fun h => by cases h)))))) (tl_c (tl_c (tl_c (tl_l (P := pfP) (K := 8172) (x := (15, 15, 15, 2, 1)) (fun h => by cases h)) (tl_c (tl_l (P := pfP) (K := 8178) (x := (8, 8, 22, 0, 0)) (fun _ => pf_8178)) (tl_l (P := pfP) (K := 8193) (x := (8, 8, 23, 1, 0)) (fun _ => pf_8193)))) (tl_c (tl_c (tl_l (P := pfP) (K := 8197) (x := (8, 8, 24, 0, 0)) (fun _ => pf_8197)) (tl_l (P := pfP) (K := 8204) (x := (15, 15, 23, 2, 1)) (fun h => by cases h))) (tl_c (tl_l (P := pfP) (K := 8229) (x := (15, 15, 26, 0, 0)) (fun h => by cases h)) (tl_l (P := pfP) (K := 8232) (x := (15, 15, 27, 2, 1)) (fun h => by cases h))))) (tl_c (tl_c (tl_c (tl_l (P := pfP) (K := 8235) (x := (15, 15, 28, 2, 1)) (fun h => by cases h)) (tl_l (P := pfP) (K := 8238) (x := (15, 15, 30, 2, 1)) (fun h => by cases h))) (tl_c (tl_l (P := pfP) (K := 8243) (x := (15, 15, 29, 2, 1)) (fun h => by cases h)) (tl_l (P := pfP) (K := 8246) (x := (15, 15, 22, 2, 1)) (fun h => by cases h)))) (tl_c (tl_c (tl_l (P := pfP) (K := 8253) (x := (15, 15, 19, 2, 1)) (fun h => by cases h)) (tl_l (P := pfP) (K := 8265) (x := (12, 12, 4, 2, 1)) (fun h => by cases h))) (tl_c (tl_l (P := pfP) (K := 8283) (x := (12, 12, 1, 2, 1)) (fun h => by cases h)) (tl_l (P := pfP) (K := 8286) (x := (12, 12, 2, 2, 1)) (fun h => by cases h))))))) (tl_c (tl_c (tl_c (tl_c (tl_l (P := pfP) (K := 8293) (x := (10, 10, 1, 0, 0)) (fun h => by cases h)) (tl_c (tl_l (P := pfP) (K := 8295) (x := (10, 10, 2, 0, 0)) (fun h => by cases h)) (tl_l (P := pfP) (K := 8297) (x := (12, 12, 3, 2, 1)) (fun h => by cases h)))) (tl_c (tl_c (tl_l (P := pfP) (K := 8366) (x := (12, 12, 5, 2, 1)) (fun h => by cases h)) (tl_l (P := pfP) (K := 8369) (x := (12, 12, 6, 2, 1)) (fun h => by cases h))) (tl_c (tl_l (P := pfP) (K := 8372) (x := (12, 12, 7, 2, 1)) (fun h => by cases h)) (tl_l (P := pfP) (K := 8404) (x := (15, 15, 5, 2, 1)) (fun h => by cases h))))) (tl_c (tl_c (tl_l (P := pfP) (K := 8417) (x := (15, 15, 2, 0, 0)) (fun h => by cases h)) (tl_c (tl_l (P := pfP) (K := 8419) (x := (15, 15, 3, 2, 1)) (fun h => by cases h)) (tl_l (P := pfP) (K := 8425) (x := (15, 15, 4, 2, 1)) (fun h => by cases h)))) (tl_c (tl_c (tl_l (P := pfP) (K := 8437) (x := (13, 13, 4, 2, 1)) (fun h => by cases h)) (tl_l (P := pfP) (K := 8448) (x := (13, 13, 1, 2, 1)) (fun h => by cases h))) (tl_c (tl_l (P := pfP) (K := 8449) (x := (13, 13, 2, 2, 1)) (fun h => by cases h)) (tl_l (P := pfP) (K := 8457) (x := (15, 15, 13, 2, 1)) (fun h => by cases h)))))) (tl_c (tl_c (tl_c (tl_l (P := pfP) (K := 9009) (x := (9, 9, 0, 2, 0)) (fun _ => pf_9009)) (tl_c (tl_l (P := pfP) (K := 9015) (x := (9, 9, 1, 0, 0)) (fun _ => pf_9015)) (tl_l (P := pfP) (K := 10009) (x := (10, 10, 0, 2, 1)) (fun _ => pf_10009)))) (tl_c (tl_c (tl_l (P := pfP) (K := 10026) (x := (10, 10, 1, 0, 0)) (fun _ => pf_10026)) (tl_l (P := pfP) (K := 10034) (x := (10, 10, 2, 0, 0)) (fun _ => pf_10034))) (tl_c (tl_l (P := pfP) (K := 10069) (x := (10, 10, 3, 1, 0)) (fun _ => pf_10069)) (tl_l (P := pfP) (K := 10073) (x := (10, 10, 4, 1, 0)) (fun _ => pf_10073))))) (tl_c (tl_c (tl_c (tl_l (P := pfP) (K := 11009) (x := (12, 13, 0, 2, 1)) (fun _ => pf_11009)) (tl_l (P := pfP) (K := 11015) (x := (12, 13, 1, 2, 1)) (fun _ => pf_11015))) (tl_c (tl_l (P := pfP) (K := 11018) (x := (12, 13, 2, 2, 1)) (fun _ => pf_11018)) (tl_l (P := pfP) (K := 11021) (x := (12, 13, 3, 2, 1)) (fun _ => pf_11021)))) (tl_c (tl_c (tl_l (P := pfP) (K := 12009) (x := (12, 12, 4, 2, 1)) (fun _ => pf_12009)) (tl_l (P := pfP) (K := 12015) (x := (12, 12, 5, 2, 1)) (fun _ => pf_12015))) (tl_c (tl_l (P := pfP) (K := 12018) (x := (12, 12, 6, 2, 1)) (fun _ => pf_12018)) (tl_l (P := pfP) (K := 12021) (x := (12, 12, 7, 2, 1)) (fun _ => pf_12021)))))))))) (tl_c (tl_c (tl_c (tl_c (tl_c (tl_c (tl_c (tl_l (P := pfP) (K := 12032) (x := (12, 12, 0, 2, 1)) (fun h => by cases h)) (tl_c (tl_l (P := pfP) (K := 13007) (x := (13, 13, 4, 2, 1)) (fun _ => pf_13007)) (tl_l (P := pfP) (K := 14011) (x := (14, 14, 1, 2, 1)) (fun _ => pf_14011)))) (tl_c (tl_c (tl_l (P := pfP) (K := 14015) (x := (14, 14, 2, 2, 1)) (fun _ => pf_14015)) (tl_l (P := pfP) (K := 14018) (x := (14, 14, 3, 2, 1)) (fun _ => pf_14018))) (tl_c (tl_l (P := pfP) (K := 14021) (x := (14, 14, 4, 2, 1)) (fun _ => pf_14021)) (tl_l (P := pfP) (K := 14024) (x := (14, 14, 7, 2, 1)) (fun _ => pf_14024))))) (tl_c (tl_c (tl_l (P := pfP) (K := 14027) (x := (14, 14, 8, 2, 1)) (fun _ => pf_14027)) (tl_c (tl_l (P := pfP) (K := 14030) (x := (14, 14, 9, 2, 1)) (fun _ => pf_14030)) (tl_l (P := pfP) (K := 14033) (x := (14, 14, 14, 2, 1)) (fun _ => pf_14033)))) (tl_c (tl_c (tl_l (P := pfP) (K := 14036) (x := (14, 14, 0, 2, 0)) (fun _ => pf_14036)) (tl_l (P := pfP) (K := 14040) (x := (14, 14, 11, 2, 0)) (fun _ => pf_14040))) (tl_c (tl_l (P := pfP) (K := 14043) (x := (14, 14, 12, 0, 0)) (fun _ => pf_14043)) (tl_l (P := pfP) (K := 14047) (x := (14, 14, 13, 0, 0)) (fun _ => pf_14047)))))) (tl_c (tl_c (tl_c (tl_l (P := pfP) (K := 14050) (x := (14, 14, 15, 0, 0)) (fun _ => pf_14050)) (tl_c (tl_l (P := pfP) (K := 14053) (x := (14, 14, 16, 0, 0)) (fun _ => pf_14053)) (tl_l (P := pfP) (K := 14056) (x := (14, 14, 18, 0, 0)) (fun _ => pf_14056)))) (tl_c (tl_c (tl_l (P := pfP) (K := 14059) (x := (14, 14, 5, 0, 0)) (fun _ => pf_14059)) (tl_l (P := pfP) (K := 14062) (x := (14, 14, 6, 0, 0)) (fun _ => pf_14062))) (tl_c (tl_l (P := pfP) (K := 14065) (x := (14, 14, 10, 0, 0)) (fun _ => pf_14065)) (tl_l (P := pfP) (K := 14068) (x := (14, 14, 19, 0, 0)) (fun _ => pf_14068))))) (tl_c (tl_c (tl_l (P := pfP) (K := 14071) (x := (15, 15, 31, 0, 0)) (fun h => by cases h)) (tl_c (tl_l (P := pfP) (K := 14080) (x := (14, 14, 17, 0, 0)) (fun _ => pf_14080)) (tl_l (P := pfP) (K := 14086) (x := (15, 15, 15, 2, 1)) (fun h => by cases h)))) (tl_c (tl_c (tl_l (P := pfP) (K := 14089) (x := (15, 15, 25, 2, 1)) (fun h => by cases h)) (tl_l (P := pfP) (K := 14103) (x := (15, 15, 26, 0, 0)) (fun h => by cases h))) (tl_c (tl_l (P := pfP) (K := 14106) (x := (15, 15, 27, 2, 1)) (fun h => by cases h)) (tl_l (P := pfP) (K := 14109) (x := (15, 15, 28, 2, 1)) (fun h => by cases h))))))) (tl_c (tl_c (tl_c (tl_c (tl_l (P := pfP) (K := 14112) (x := (15, 15, 30, 2, 1)) (fun h => by cases h)) (tl_c (tl_l (P := pfP) (K := 14118) (x := (15, 15, 29, 2, 1)) (fun h => by cases h)) (tl_l (P := pfP) (K := 14121) (x := (15, 15, 18, 2, 1)) (fun h => by cases h)))) (tl_c (tl_c (tl_l (P := pfP) (K := 14150) (x := (15, 15, 19, 2, 1)) (fun h => by cases h)) (tl_l (P := pfP) (K := 14153) (x := (15, 15, 20, 2, 1)) (fun h => by cases h))) (tl_c (tl_l (P := pfP) (K := 14164) (x := (15, 15, 6, 2, 1)) (fun h => by cases h)) (tl_l (P := pfP) (K := 14180) (x := (15, 15, 5, 2, 1)) (fun h => by cases h))))) (tl_c (tl_c (tl_l (P := pfP) (K := 14197) (x := (15, 15, 11, 2, 1)) (fun h => by cases h)) (tl_c (tl_l (P := pfP) (K := 15009) (x := (15, 15, 1, 2, 1)) (fun _ => pf_15009)) (tl_l (P := pfP) (K := 15015) (x := (15, 15, 3, 2, 1)) (fun _ => pf_15015)))) (tl_c (tl_c (tl_l (P := pfP) (K := 15018) (x := (15, 15, 4, 2, 1)) (fun _ => pf_15018)) (tl_l (P := pfP) (K := 15021) (x := (15, 15, 5, 2, 1)) (fun _ => pf_15021))) (tl_c (tl_l (P := pfP) (K := 15024) (x := (15, 15, 6, 2, 1)) (fun _ => pf_15024)) (tl_l (P := pfP) (K := 15027) (x := (15, 15, 8, 2, 1)) (fun _ => pf_15027)))))) (tl_c (tl_c (tl_c (tl_l (P := pfP) (K := 15030) (x := (15, 15, 9, 2, 1)) (fun _ => pf_15030)) (tl_c (tl_l (P := pfP) (K := 15033) (x := (15, 15, 10, 2, 1)) (fun _ => pf_15033)) (tl_l (P := pfP) (K := 15037) (x := (15, 15, 11, 2, 1)) (fun _ => pf_15037)))) (tl_c (tl_c (tl_l (P := pfP) (K := 15040) (x := (15, 15, 12, 2, 1)) (fun _ => pf_15040)) (tl_l (P := pfP) (K := 15043) (x := (15, 15, 13, 2, 1)) (fun _ => pf_15043))) (tl_c (tl_l (P := pfP) (K := 15046) (x := (15, 15, 14, 2, 1)) (fun _ => pf_15046)) (tl_l (P := pfP) (K := 15049) (x := (15, 15, 15, 2, 1)) (fun _ => pf_15049))))) (tl_c (tl_c (tl_c (tl_l (P := pfP) (K := 15052) (x := (15, 15, 16, 2, 1)) (fun _ => pf_15052)) (tl_l (P := pfP) (K := 15055) (x := (15, 15, 18, 2, 1)) (fun _ => pf_15055))) (tl_c (tl_l (P := pfP) (K := 15058) (x := (15, 15, 19, 2, 1)) (fun _ => pf_15058)) (tl_l (P := pfP) (K := 15061) (x := (15, 15, 20, 2, 1)) (fun _ => pf_15061)))) (tl_c (tl_c (tl_l (P := pfP) (K := 15064) (x := (15, 15, 21, 2, 1)) (fun _ => pf_15064)) (tl_l (P := pfP) (K := 15067) (x := (15, 15, 22, 2, 1)) (fun _ => pf_15067))) (tl_c (tl_l (P := pfP) (K := 15070) (x := (15, 15, 23, 2, 1)) (fun _ => pf_15070)) (tl_l (P := pfP) (K := 15073) (x := (15, 15, 25, 2, 1)) (fun _ => pf_15073)))))))) (tl_c (tl_c (tl_c (tl_c (tl_c (tl_l (P := pfP) (K := 15076) (x := (15, 15, 27, 2, 1)) (fun _ => pf_15076)) (tl_c (tl_l (P := pfP) (K := 15079) (x := (15, 15, 28, 2, 1)) (fun _ => pf_15079)) (tl_l (P := pfP) (K := 15082) (x := (15, 15, 29, 2, 1)) (fun _ => pf_15082)))) (tl_c (tl_c (tl_l (P := pfP) (K := 15085) (x := (15, 15, 30, 2, 1)) (fun _ => pf_15085)) (tl_l (P := pfP) (K := 15088) (x := (15, 15, 0, 0, 0)) (fun _ => pf_15088))) (tl_c (tl_l (P := pfP) (K := 15092) (x := (15, 15, 2, 0, 0)) (fun _ => pf_15092)) (tl_l (P := pfP) (K := 15095) (x := (15, 15, 7, 0, 0)) (fun _ => pf_15095))))) (tl_c (tl_c (tl_l (P := pfP) (K := 15098) (x := (15, 15, 17, 0, 0)) (fun _ => pf_15098)) (tl_c (tl_l (P := pfP) (K := 15101) (x := (15, 15, 24, 0, 0)) (fun _ => pf_15101)) (tl_l (P := pfP) (K := 15104) (x := (15, 15, 26, 0, 0)) (fun _ => pf_15104)))) (tl_c (tl_c (tl_l (P := pfP) (K := 15107) (x := (15, 15, 31, 0, 0)) (fun _ => pf_15107)) (tl_l (P := pfP) (K := 16012) (x := (16, 16, 0, 2, 0)) (fun _ => pf_16012))) (tl_c (tl_l (P := pfP) (K := 16016) (x := (16, 16, 1, 2, 0)) (fun _ => pf_16016)) (tl_l (P := pfP) (K := 16019) (x := (16, 16, 3, 2, 1)) (fun _ => pf_16019)))))) (tl_c (tl_c (tl_c (tl_l (P := pfP) (K := 16023) (x := (16, 16, 6, 2, 1)) (fun _ => pf_16023)) (tl_c (tl_l (P := pfP) (K := 16026) (x := (16, 16, 8, 2, 1)) (fun _ => pf_16026)) (tl_l (P := pfP) (K := 16030) (x := (16, 16, 9, 2, 1)) (fun _ => pf_16030)))) (tl_c (tl_c (tl_l (P := pfP) (K := 16033) (x := (16, 16, 12, 0, 0)) (fun _ => pf_16033)) (tl_l (P := pfP) (K := 16037) (x := (16, 16, 13, 2, 1)) (fun _ => pf_16037))) (tl_c (tl_l (P := pfP) (K := 16040) (x := (16, 16, 14, 2, 1)) (fun _ => pf_16040)) (tl_l (P := pfP) (K := 16043) (x := (16, 16, 15, 2, 1)) (fun _ => pf_16043))))) (tl_c (tl_c (tl_c (tl_l (P := pfP) (K := 16046) (x := (16, 16, 16, 2, 1)) (fun _ => pf_16046)) (tl_l (P := pfP) (K := 16049) (x := (16, 16, 17, 2, 1)) (fun _ => pf_16049))) (tl_c (tl_l (P := pfP) (K := 16052) (x := (16, 16, 18, 2, 1)) (fun _ => pf_16052)) (tl_l (P := pfP) (K := 16055) (x := (16, 16, 20, 2, 1)) (fun _ => pf_16055)))) (tl_c (tl_c (tl_l (P := pfP) (K := 16058) (x := (16, 16, 21, 2, 1)) (fun _ => pf_16058)) (tl_l (P := pfP) (K := 16061) (x := (16, 16, 22, 2, 1)) (fun _ => pf_16061))) (tl_c (tl_l (P := pfP) (K := 16065) (x := (16, 16, 23, 2, 1)) (fun _ => pf_16065)) (tl_l (P := pfP) (K := 16068) (x := (16, 16, 24, 2, 1)) (fun _ => pf_16068))))))) (tl_c (tl_c (tl_c (tl_c (tl_l (P := pfP) (K := 16071) (x := (16, 16, 26, 2, 1)) (fun _ => pf_16071)) (tl_c (tl_l (P := pfP) (K := 16074) (x := (16, 16, 27, 2, 1)) (fun _ => pf_16074)) (tl_l (P := pfP) (K := 16077) (x := (16, 16, 28, 2, 1)) (fun _ => pf_16077)))) (tl_c (tl_c (tl_l (P := pfP) (K := 16080) (x := (16, 16, 29, 2, 1)) (fun _ => pf_16080)) (tl_l (P := pfP) (K := 16084) (x := (16, 16, 30, 2, 1)) (fun _ => pf_16084))) (tl_c (tl_l (P := pfP) (K := 16087) (x := (16, 16, 31, 2, 1)) (fun _ => pf_16087)) (tl_l (P := pfP) (K := 16090) (x := (16, 16, 32, 2, 1)) (fun _ => pf_16090))))) (tl_c (tl_c (tl_l (P := pfP) (K := 16093) (x := (16, 16, 33, 2, 1)) (fun _ => pf_16093)) (tl_c (tl_l (P := pfP) (K := 16096) (x := (16, 16, 34, 2, 1)) (fun _ => pf_16096)) (tl_l (P := pfP) (K := 16099) (x := (16, 16, 35, 2, 1)) (fun _ => pf_16099)))) (tl_c (tl_c (tl_l (P := pfP) (K := 16102) (x := (16, 16, 41, 2, 1)) (fun _ => pf_16102)) (tl_l (P := pfP) (K := 16105) (x := (16, 16, 42, 2, 1)) (fun _ => pf_16105))) (tl_c (tl_l (P := pfP) (K := 16108) (x := (16, 16, 43, 2, 1)) (fun _ => pf_16108)) (tl_l (P := pfP) (K := 16111) (x := (16, 16, 44, 2, 1)) (fun _ => pf_16111)))))) (tl_c (tl_c (tl_c (tl_l (P := pfP) (K := 16114) (x := (16, 16, 45, 2, 1)) (fun _ => pf_16114)) (tl_c (tl_l (P := pfP) (K := 16117) (x := (16, 16, 46, 2, 1)) (fun _ => pf_16117)) (tl_l (P := pfP) (K := 16120) (x := (16, 16, 47, 2, 1)) (fun _ => pf_16120)))) (tl_c (tl_c (tl_l (P := pfP) (K := 16123) (x := (16, 16, 48, 2, 1)) (fun _ => pf_16123)) (tl_l (P := pfP) (K := 16126) (x := (16, 16, 49, 2, 1)) (fun _ => pf_16126))) (tl_c (tl_l (P := pfP) (K := 16129) (x := (16, 16, 50, 2, 1)) (fun _ => pf_16129)) (tl_l (P := pfP) (K := 16132) (x := (16, 16, 51, 2, 1)) (fun _ => pf_16132))))) (tl_c (tl_c (tl_c (tl_l (P := pfP) (K := 16135) (x := (16, 16, 59, 0, 0)) (fun _ => pf_16135)) (tl_l (P := pfP) (K := 16138) (x := (16, 16, 60, 0, 0)) (fun _ => pf_16138))) (tl_c (tl_l (P := pfP) (K := 16141) (x := (16, 16, 4, 0, 0)) (fun _ => pf_16141)) (tl_l (P := pfP) (K := 16144) (x := (16, 16, 5, 0, 0)) (fun _ => pf_16144)))) (tl_c (tl_c (tl_l (P := pfP) (K := 16152) (x := (16, 16, 7, 0, 0)) (fun _ => pf_16152)) (tl_l (P := pfP) (K := 16155) (x := (16, 16, 10, 0, 0)) (fun _ => pf_16155))) (tl_c (tl_l (P := pfP) (K := 16194) (x := (16, 16, 11, 0, 0)) (fun _ => pf_16194)) (tl_l (P := pfP) (K := 16267) (x := (17, 17, 0, 0, 0)) (fun _ => pf_16267))))))))) (tl_c (tl_c (tl_c (tl_c (tl_c (tl_c (tl_l (P := pfP) (K := 16280) (x := (17, 17, 8, 2, 1)) (fun h => by cases h)) (tl_c (tl_l (P := pfP) (K := 16293) (x := (17, 17, 1, 0, 0)) (fun _ => pf_16293)) (tl_l (P := pfP) (K := 16296) (x := (17, 17, 10, 2, 1)) (fun h => by cases h)))) (tl_c (tl_c (tl_l (P := pfP) (K := 16303) (x := (17, 17, 2, 0, 0)) (fun _ => pf_16303)) (tl_l (P := pfP) (K := 16306) (x := (17, 17, 13, 2, 1)) (fun h => by cases h))) (tl_c (tl_l (P := pfP) (K := 16324) (x := (17, 17, 11, 2, 1)) (fun h => by cases h)) (tl_l (P := pfP) (K := 16334) (x := (17, 17, 14, 2, 1)) (fun h => by cases h))))) (tl_c (tl_c (tl_l (P := pfP) (K := 16340) (x := (17, 17, 16, 2, 1)) (fun h => by cases h)) (tl_c (tl_l (P := pfP) (K := 16343) (x := (17, 17, 17, 2, 1)) (fun h => by cases h)) (tl_l (P := pfP) (K := 16348) (x := (17, 17, 15, 2, 1)) (fun h => by cases h)))) (tl_c (tl_c (tl_l (P := pfP) (K := 16351) (x := (17, 17, 18, 2, 1)) (fun h => by cases h)) (tl_l (P := pfP) (K := 16353) (x := (17, 17, 3, 0, 0)) (fun _ => pf_16353))) (tl_c (tl_l (P := pfP) (K := 16356) (x := (17, 17, 4, 0, 0)) (fun _ => pf_16356)) (tl_l (P := pfP) (K := 16359) (x := (17, 17, 5, 0, 0)) (fun _ => pf_16359)))))) (tl_c (tl_c (tl_c (tl_l (P := pfP) (K := 16362) (x := (17, 17, 7, 0, 0)) (fun _ => pf_16362)) (tl_c (tl_l (P := pfP) (K := 16369) (x := (17, 17, 19, 2, 1)) (fun h => by cases h)) (tl_l (P := pfP) (K := 16372) (x := (16, 16, 19, 0, 0)) (fun _ => pf_16372)))) (tl_c (tl_c (tl_l (P := pfP) (K := 16378) (x := (17, 17, 20, 2, 1)) (fun h => by cases h)) (tl_l (P := pfP) (K := 16391) (x := (17, 17, 22, 2, 1)) (fun h => by cases h))) (tl_c (tl_l (P := pfP) (K := 16397) (x := (17, 17, 28, 2, 1)) (fun h => by cases h)) (tl_l (P := pfP) (K := 16400) (x := (17, 17, 29, 2, 1)) (fun h => by cases h))))) (tl_c (tl_c (tl_l (P := pfP) (K := 16403) (x := (17, 17, 30, 2, 1)) (fun h => by cases h)) (tl_c (tl_l (P := pfP) (K := 16406) (x := (17, 17, 31, 2, 1)) (fun h => by cases h)) (tl_l (P := pfP) (K := 16409) (x := (17, 17, 32, 2, 1)) (fun h => by cases h)))) (tl_c (tl_c (tl_l (P := pfP) (K := 16412) (x := (17, 17, 25, 2, 1)) (fun h => by cases h)) (tl_l (P := pfP) (K := 16414) (x := (17, 17, 23, 2, 1)) (fun h => by cases h))) (tl_c (tl_l (P := pfP) (K := 16417) (x := (17, 17, 24, 2, 1)) (fun h => by cases h)) (tl_l (P := pfP) (K := 16432) (x := (17, 17, 27, 2, 1)) (fun h => by cases h))))))) (tl_c (tl_c (tl_c (tl_c (tl_l (P := pfP) (K := 16438) (x := (17, 17, 33, 2, 1)) (fun h => by cases h)) (tl_c (tl_l (P := pfP) (K := 16444) (x := (17, 17, 9, 2, 1)) (fun h => by cases h)) (tl_l (P := pfP) (K := 16447) (x := (17, 17, 12, 2, 1)) (fun h => by cases h)))) (tl_c (tl_c (tl_l (P := pfP) (K := 16450) (x := (17, 17, 21, 2, 1)) (fun h => by cases h)) (tl_l (P := pfP) (K := 16453) (x := (17, 17, 6, 0, 0)) (fun _ => pf_16453))) (tl_c (tl_l (P := pfP) (K := 16474) (x := (17, 17, 26, 2, 1)) (fun h => by cases h)) (tl_l (P := pfP) (K := 16495) (x := (16, 16, 25, 0, 0)) (fun _ => pf_16495))))) (tl_c (tl_c (tl_l (P := pfP) (K := 16529) (x := (17, 17, 35, 2, 1)) (fun h => by cases h)) (tl_c (tl_l (P := pfP) (K := 16530) (x := (17, 17, 36, 2, 1)) (fun h => by cases h)) (tl_l (P := pfP) (K := 16531) (x := (17, 17, 37, 2, 1)) (fun h => by cases h)))) (tl_c (tl_c (tl_l (P := pfP) (K := 16532) (x := (17, 17, 38, 2, 1)) (fun h => by cases h)) (tl_l (P := pfP) (K := 16533) (x := (17, 17, 39, 2, 1)) (fun h => by cases h))) (tl_c (tl_l (P := pfP) (K := 16535) (x := (17, 17, 40, 2, 1)) (fun h => by cases h)) (tl_l (P := pfP) (K := 16536) (x := (17, 17, 41, 2, 1)) (fun h => by cases h)))))) (tl_c (tl_c (tl_c (tl_l (P := pfP) (K := 16537) (x := (17, 17, 42, 2, 1)) (fun h => by cases h)) (tl_c (tl_l (P := pfP) (K := 16538) (x := (17, 17, 43, 2, 1)) (fun h => by cases h)) (tl_l (P := pfP) (K := 16539) (x := (17, 17, 34, 2, 1)) (fun h => by cases h)))) (tl_c (tl_c (tl_l (P := pfP) (K := 16545) (x := (16, 16, 36, 3, 0)) (fun _ => pf_16545)) (tl_l (P := pfP) (K := 16576) (x := (17, 17, 46, 2, 1)) (fun h => by cases h))) (tl_c (tl_l (P := pfP) (K := 16579) (x := (17, 17, 47, 2, 1)) (fun h => by cases h)) (tl_l (P := pfP) (K := 16582) (x := (17, 17, 48, 2, 1)) (fun h => by cases h))))) (tl_c (tl_c (tl_c (tl_l (P := pfP) (K := 16585) (x := (16, 16, 37, 3, 0)) (fun _ => pf_16585)) (tl_l (P := pfP) (K := 16588) (x := (17, 17, 49, 2, 1)) (fun h => by cases h))) (tl_c (tl_l (P := pfP) (K := 16601) (x := (17, 17, 44, 2, 1)) (fun h => by cases h)) (tl_l (P := pfP) (K := 16604) (x := (17, 17, 45, 2, 1)) (fun h => by cases h)))) (tl_c (tl_c (tl_l (P := pfP) (K := 16607) (x := (17, 17, 50, 2, 1)) (fun h => by cases h)) (tl_l (P := pfP) (K := 16610) (x := (17, 17, 51, 2, 1)) (fun h => by cases h))) (tl_c (tl_l (P := pfP) (K := 16613) (x := (17, 17, 52, 2, 1)) (fun h => by cases h)) (tl_l (P := pfP) (K := 16625) (x := (16, 16, 39, 0, 0)) (fun _ => pf_16625)))))))) (tl_c (tl_c (tl_c (tl_c (tl_c (tl_l (P := pfP) (K := 16628) (x := (16, 16, 40, 1, 0)) (fun _ => pf_16628)) (tl_c (tl_l (P := pfP) (K := 16632) (x := (16, 16, 38, 3, 0)) (fun _ => pf_16632)) (tl_l (P := pfP) (K := 16794) (x := (16, 16, 2, 3, 0)) (fun _ => pf_16794)))) (tl_c (tl_c (tl_l (P := pfP) (K := 16805) (x := (16, 16, 55, 0, 0)) (fun _ => pf_16805)) (tl_l (P := pfP) (K := 16808) (x := (16, 16, 53, 0, 0)) (fun _ => pf_16808))) (tl_c (tl_l (P := pfP) (K := 16811) (x := (16, 16, 54, 0, 0)) (fun _ => pf_16811)) (tl_l (P := pfP) (K := 16814) (x := (16, 16, 56, 0, 0)) (fun _ => pf_16814))))) (tl_c (tl_c (tl_l (P := pfP) (K := 16817) (x := (16, 16, 57, 0, 0)) (fun _ => pf_16817)) (tl_c (tl_l (P := pfP) (K := 16820) (x := (16, 16, 58, 0, 0)) (fun _ => pf_16820)) (tl_l (P := pfP) (K := 16823) (x := (16, 16, 52, 0, 0)) (fun _ => pf_16823)))) (tl_c (tl_c (tl_l (P := pfP) (K := 16826) (x := (16, 16, 61, 0, 0)) (fun _ => pf_16826)) (tl_l (P := pfP) (K := 16835) (x := (16, 16, 63, 3, 0)) (fun _ => pf_16835))) (tl_c (tl_l (P := pfP) (K := 16841) (x := (16, 16, 62, 0, 0)) (fun _ => pf_16841)) (tl_l (P := pfP) (K := 17009) (x := (17, 17, 8, 2, 1)) (fun _ => pf_17009)))))) (tl_c (tl_c (tl_c (tl_l (P := pfP) (K := 17015) (x := (17, 17, 9, 2, 1)) (fun _ => pf_17015)) (tl_c (tl_l (P := pfP) (K := 17018) (x := (17, 17, 10, 2, 1)) (fun _ => pf_17018)) (tl_l (P := pfP) (K := 17021) (x := (17, 17, 11, 2, 1)) (fun _ => pf_17021)))) (tl_c (tl_c (tl_l (P := pfP) (K := 17024) (x := (17, 17, 12, 2, 1)) (fun _ => pf_17024)) (tl_l (P := pfP) (K := 17027) (x := (17, 17, 13, 2, 1)) (fun _ => pf_17027))) (tl_c (tl_l (P := pfP) (K := 17030) (x := (17, 17, 14, 2, 1)) (fun _ => pf_17030)) (tl_l (P := pfP) (K := 17034) (x := (17, 17, 15, 2, 1)) (fun _ => pf_17034))))) (tl_c (tl_c (tl_c (tl_l (P := pfP) (K := 17037) (x := (17, 17, 16, 2, 1)) (fun _ => pf_17037)) (tl_l (P := pfP) (K := 17040) (x := (17, 17, 17, 2, 1)) (fun _ => pf_17040))) (tl_c (tl_l (P := pfP) (K := 17043) (x := (17, 17, 18, 2, 1)) (fun _ => pf_17043)) (tl_l (P := pfP) (K := 17046) (x := (17, 17, 19, 2, 1)) (fun _ => pf_17046)))) (tl_c (tl_c (tl_l (P := pfP) (K := 17049) (x := (17, 17, 20, 2, 1)) (fun _ => pf_17049)) (tl_l (P := pfP) (K := 17052) (x := (17, 17, 21, 2, 1)) (fun _ => pf_17052))) (tl_c (tl_l (P := pfP) (K := 17055) (x := (17, 17, 22, 2, 1)) (fun _ => pf_17055)) (tl_l (P := pfP) (K := 17058) (x := (17, 17, 23, 2, 1)) (fun _ => pf_17058))))))) (tl_c (tl_c (tl_c (tl_c (tl_l (P := pfP) (K := 17061) (x := (17, 17, 24, 2, 1)) (fun _ => pf_17061)) (tl_c (tl_l (P := pfP) (K := 17064) (x := (17, 17, 25, 2, 1)) (fun _ => pf_17064)) (tl_l (P := pfP) (K := 17067) (x := (17, 17, 26, 2, 1)) (fun _ => pf_17067)))) (tl_c (tl_c (tl_l (P := pfP) (K := 17070) (x := (17, 17, 27, 2, 1)) (fun _ => pf_17070)) (tl_l (P := pfP) (K := 17073) (x := (17, 17, 28, 2, 1)) (fun _ => pf_17073))) (tl_c (tl_l (P := pfP) (K := 17076) (x := (17, 17, 29, 2, 1)) (fun _ => pf_17076)) (tl_l (P := pfP) (K := 17079) (x := (17, 17, 30, 2, 1)) (fun _ => pf_17079))))) (tl_c (tl_c (tl_l (P := pfP) (K := 17082) (x := (17, 17, 31, 2, 1)) (fun _ => pf_17082)) (tl_c (tl_l (P := pfP) (K := 17085) (x := (17, 17, 32, 2, 1)) (fun _ => pf_17085)) (tl_l (P := pfP) (K := 17088) (x := (17, 17, 33, 2, 1)) (fun _ => pf_17088)))) (tl_c (tl_c (tl_l (P := pfP) (K := 17091) (x := (17, 17, 34, 2, 1)) (fun _ => pf_17091)) (tl_l (P := pfP) (K := 17094) (x := (17, 17, 35, 2, 1)) (fun _ => pf_17094))) (tl_c (tl_l (P := pfP) (K := 17098) (x := (17, 17, 36, 2, 1)) (fun _ => pf_17098)) (tl_l (P := pfP) (K := 17101) (x := (17, 17, 37, 2, 1)) (fun _ => pf_17101)))))) (tl_c (tl_c (tl_c (tl_l (P := pfP) (K := 17104) (x := (17, 17, 38, 2, 1)) (fun _ => pf_17104)) (tl_c (tl_l (P := pfP) (K := 17108) (x := (17, 17, 39, 2, 1)) (fun _ => pf_17108)) (tl_l (P := pfP) (K := 17111) (x := (17, 17, 40, 2, 1)) (fun _ => pf_17111)))) (tl_c (tl_c (tl_l (P := pfP) (K := 17114) (x := (17, 17, 41, 2, 1)) (fun _ => pf_17114)) (tl_l (P := pfP) (K := 17117) (x := (17, 17, 42, 2, 1)) (fun _ => pf_17117))) (tl_c (tl_l (P := pfP) (K := 17120) (x := (17, 17, 43, 2, 1)) (fun _ => pf_17120)) (tl_l (P := pfP) (K := 17123) (x := (17, 17, 44, 2, 1)) (fun _ => pf_17123))))) (tl_c (tl_c (tl_c (tl_l (P := pfP) (K := 17126) (x := (17, 17, 45, 2, 1)) (fun _ => pf_17126)) (tl_l (P := pfP) (K := 17129) (x := (17, 17, 46, 2, 1)) (fun _ => pf_17129))) (tl_c (tl_l (P := pfP) (K := 17132) (x := (17, 17, 47, 2, 1)) (fun _ => pf_17132)) (tl_l (P := pfP) (K := 17135) (x := (17, 17, 48, 2, 1)) (fun _ => pf_17135)))) (tl_c (tl_c (tl_l (P := pfP) (K := 17138) (x := (17, 17, 49, 2, 1)) (fun _ => pf_17138)) (tl_l (P := pfP) (K := 17141) (x := (17, 17, 50, 2, 1)) (fun _ => pf_17141))) (tl_c (tl_l (P := pfP) (K := 17144) (x := (17, 17, 51, 2, 1)) (fun _ => pf_17144)) (tl_l (P := pfP) (K := 17147) (x := (17, 17, 52, 2, 1)) (fun _ => pf_17147))))))))))
