/-! functions over data by field and owner -/
set_option maxRecDepth 100000
/-- LayeredPictures$PacketOrder.need(Z)V -/
def q_X21_need (x0 : Int) (G : Gt) (D : Dt) (c : Ct) : Option ((Unit ⊕ Nat) × (Dt × Ct)) :=
  if x0 = (0 : Int) then
    some (.inr 0, (D, (c_al c 6)))
  else
  some (.inl (), (D, c))
/-- LayeredPictures$PacketOrder$Area.set(IIII)V -/
def q_X24_set (a0 : Nat) (x1 : Int) (x2 : Int) (x3 : Int) (x4 : Int) (G : Gt) (D : Dt) : Dt :=
  lett (u_I D 2400 a0 x1) fun d1 =>
  lett (u_I d1 2401 a0 x2) fun d2 =>
  lett (u_I d2 2402 a0 x3) fun d3 =>
  lett (u_I d3 2403 a0 x4) fun d4 =>
  d4
/-- LayeredPictures$PacketOrder.tile(IIII)V -/
def q_X21_tile_39 (x1 : Int) (x2 : Int) (x3 : Int) (x4 : Int) (ts0 : Int) (G : Gt) (D : Dt) (c : Ct) : Option ((Unit ⊕ Nat) × (Dt × Ct)) :=
  tht (q_X21_need ts0 G D c) fun _ p2 =>
  lett (q_X24_set (z_P G 2300 (s_ G 23)) x1 x2 x3 x4 G p2.1) fun d6 =>
  lett (u_I d6 2111 (s_ G 21) (0 : Int)) fun d7 =>
  some (.inl (), (d7, p2.2))
def q_X21_tile_38 (x1 : Int) (x2 : Int) (x3 : Int) (x4 : Int) (G : Gt) (D : Dt) (c : Ct) : Option ((Unit ⊕ Nat) × (Dt × Ct)) :=
  q_X21_tile_39 x1 x2 x3 x4 (0 : Int) G D c
def q_X21_tile (x1 : Int) (x2 : Int) (x3 : Int) (x4 : Int) (G : Gt) (D : Dt) (c : Ct) : Option ((Unit ⊕ Nat) × (Dt × Ct)) :=
  if x1 < (0 : Int) then
    q_X21_tile_38 x1 x2 x3 x4 G D c
  else
  if x2 < (0 : Int) then
    q_X21_tile_38 x1 x2 x3 x4 G D c
  else
  if x3 ≤ x1 then
    q_X21_tile_38 x1 x2 x3 x4 G D c
  else
  if x4 ≤ x2 then
    q_X21_tile_38 x1 x2 x3 x4 G D c
  else
  if (32767 : Int) < x3 then
    q_X21_tile_38 x1 x2 x3 x4 G D c
  else
  if (32767 : Int) < x4 then
    q_X21_tile_38 x1 x2 x3 x4 G D c
  else
  q_X21_tile_39 x1 x2 x3 x4 (1 : Int) G D c
/-- LayeredPictures$PacketOrder.is(III)Z -/
def q_X21_is (x0 : Int) (x1 : Int) (x2 : Int) : Int :=
  if x0 < x1 then
    (0 : Int)
  else
  if x2 < x0 then
    (0 : Int)
  else
  (1 : Int)
/-- LayeredPictures$PacketOrder.must(Z)V -/
def q_X21_must (x0 : Int) (G : Gt) (D : Dt) (c : Ct) : Option ((Unit ⊕ Nat) × (Dt × Ct)) :=
  if x0 = (0 : Int) then
    some (.inr 1, (D, (c_al c 6)))
  else
  some (.inl (), (D, c))
/-- LayeredPictures$PacketOrder$Component.begin(II)V -/
def q_X72_begin_29 (N : Nat) : Nat → Nat → Int → Gt → Dt → Option Dt
  | 0, _, _, _, _ => none
  | n + 1, a0, x3, G, D =>
    if (33 : Int) ≤ x3 then
      some D
    else
    bnd (t_A D 33 7205 a0 x3 (15 : Int)) fun d2 =>
    bnd (t_A d2 33 7206 a0 x3 (15 : Int)) fun d4 =>
    gd (in32 (x3 + (1 : Int))) <|
    lett (x3 + (1 : Int)) fun v5 =>
    q_X72_begin_29 N n a0 v5 G d4
def q_X72_begin (N : Nat) (a0 : Nat) (x1 : Int) (x2 : Int) (G : Gt) (D : Dt) : Option Dt :=
  lett (u_I D 7200 a0 x1) fun d1 =>
  lett (u_I d1 7201 a0 x2) fun d2 =>
  lett (u_I d2 7202 a0 (0 : Int)) fun d3 =>
  lett (u_I d3 7203 a0 (6 : Int)) fun d4 =>
  lett (u_I d4 7204 a0 (6 : Int)) fun d5 =>
  q_X72_begin_29 N N a0 (0 : Int) G d5
/-- LayeredPictures$PacketOrder.component(III)I -/
def q_X21_component_85 (N : Nat) (x1 : Int) (x2 : Int) (x3 : Int) (G : Gt) (D : Dt) (c : Ct) : Option ((Int ⊕ Nat) × (Dt × Gt × Ct)) :=
  bnd (l_Q G 16 2100 (s_ G 21) (d_I D 2101 (s_ G 21))) fun w2 =>
  bnd w2 fun b3 =>
  bnd (q_X72_begin N b3 x1 x2 G D) fun d5 =>
  bnd (l_Q G 16 2100 (s_ G 21) (d_I D 2101 (s_ G 21))) fun w7 =>
  bnd w7 fun b8 =>
  lett (u_I d5 7202 b8 x3) fun d9 =>
  lett (u_I d9 2111 (s_ G 21) (0 : Int)) fun d10 =>
  lett (d_I D 2101 (s_ G 21)) fun v11 =>
  gd (in32 (v11 + (1 : Int))) <|
  lett (v11 + (1 : Int)) fun v13 =>
  lett (u_I d10 2101 (s_ G 21) v13) fun d12 =>
  some (.inl v11, (d12, G, c))
def q_X21_component_54 (N : Nat) (x1 : Int) (x2 : Int) (x3 : Int) (ts0 : Int) (G : Gt) (D : Dt) (c : Ct) : Option ((Int ⊕ Nat) × (Dt × Gt × Ct)) :=
  thu (fun p => (p.1, G, p.2)) (q_X21_must ts0 G D c) fun _ p2 =>
  bnd (l_Q G 16 2100 (s_ G 21) (d_I D 2101 (s_ G 21))) fun w4 =>
  if w4 = none then
    lett p2.2.1 fun b6 =>
    bnd (mk_72 p2.1 G p2.2) fun p7 =>
    bnd (t_Q p7.2.1 16 2100 (s_ G 21) (d_I D 2101 (s_ G 21)) (some b6)) fun g9 =>
    q_X21_component_85 N x1 x2 x3 g9 p7.1 p7.2.2
  else
  q_X21_component_85 N x1 x2 x3 G p2.1 p2.2
def q_X21_component_37 (N : Nat) (x1 : Int) (x2 : Int) (x3 : Int) (ts0 : Int) (G : Gt) (D : Dt) (c : Ct) : Option ((Int ⊕ Nat) × (Dt × Gt × Ct)) :=
  thu (fun p => (p.1, G, p.2)) (q_X21_need ts0 G D c) fun _ p2 =>
  q_X21_component_54 N x1 x2 x3 (if (16 : Int) ≤ (d_I D 2101 (s_ G 21)) then (0 : Int) else (1 : Int)) G p2.1 p2.2
def q_X21_component_36 (N : Nat) (x1 : Int) (x2 : Int) (x3 : Int) (G : Gt) (D : Dt) (c : Ct) : Option ((Int ⊕ Nat) × (Dt × Gt × Ct)) :=
  q_X21_component_37 N x1 x2 x3 (0 : Int) G D c
def q_X21_component (N : Nat) (x1 : Int) (x2 : Int) (x3 : Int) (G : Gt) (D : Dt) (c : Ct) : Option ((Int ⊕ Nat) × (Dt × Gt × Ct)) :=
  lett (q_X21_is x1 (1 : Int) (255 : Int)) fun v1 =>
  if v1 = (0 : Int) then
    q_X21_component_36 N x1 x2 x3 G D c
  else
  lett (q_X21_is x2 (1 : Int) (255 : Int)) fun v2 =>
  if v2 = (0 : Int) then
    q_X21_component_36 N x1 x2 x3 G D c
  else
  lett (q_X21_is x3 (0 : Int) (32 : Int)) fun v3 =>
  if v3 = (0 : Int) then
    q_X21_component_36 N x1 x2 x3 G D c
  else
  q_X21_component_37 N x1 x2 x3 (1 : Int) G D c
/-- LayeredPictures$PacketOrder.find(Z)V -/
def q_X21_find (x0 : Int) (G : Gt) (D : Dt) (c : Ct) : Option ((Unit ⊕ Nat) × (Dt × Ct)) :=
  if x0 = (0 : Int) then
    some (.inr 2, (D, (c_al c 6)))
  else
  some (.inl (), (D, c))
/-- LayeredPictures$PacketOrder.precincts(IIII)V -/
def q_X21_precincts_78 (x1 : Int) (x2 : Int) (x3 : Int) (x4 : Int) (ts0 : Int) (G : Gt) (D : Dt) (c : Ct) : Option ((Unit ⊕ Nat) × (Dt × Ct)) :=
  tht (q_X21_need ts0 G D c) fun _ p2 =>
  bnd (l_Q G 16 2100 (s_ G 21) x1) fun w4 =>
  bnd w4 fun b5 =>
  bnd (t_A p2.1 33 7205 b5 x2 x3) fun d7 =>
  bnd (l_Q G 16 2100 (s_ G 21) x1) fun w9 =>
  bnd w9 fun b10 =>
  bnd (t_A d7 33 7206 b10 x2 x4) fun d12 =>
  lett (u_I d12 2111 (s_ G 21) (0 : Int)) fun d13 =>
  some (.inl (), (d13, p2.2))
def q_X21_precincts_77 (x1 : Int) (x2 : Int) (x3 : Int) (x4 : Int) (G : Gt) (D : Dt) (c : Ct) : Option ((Unit ⊕ Nat) × (Dt × Ct)) :=
  q_X21_precincts_78 x1 x2 x3 x4 (0 : Int) G D c
def q_X21_precincts_48 (x1 : Int) (x2 : Int) (x3 : Int) (x4 : Int) (ts0 : Int) (G : Gt) (D : Dt) (c : Ct) : Option ((Unit ⊕ Nat) × (Dt × Ct)) :=
  lett (q_X21_is x3 ts0 (15 : Int)) fun v1 =>
  if v1 = (0 : Int) then
    q_X21_precincts_77 x1 x2 x3 x4 G D c
  else
  lett (q_X21_is x4 ts0 (15 : Int)) fun v2 =>
  if v2 = (0 : Int) then
    q_X21_precincts_77 x1 x2 x3 x4 G D c
  else
  q_X21_precincts_78 x1 x2 x3 x4 (1 : Int) G D c
def q_X21_precincts_36 (x1 : Int) (x2 : Int) (x3 : Int) (x4 : Int) (ts0 : Int) (G : Gt) (D : Dt) (c : Ct) : Option ((Unit ⊕ Nat) × (Dt × Ct)) :=
  tht (q_X21_find ts0 G D c) fun _ p2 =>
  q_X21_precincts_48 x1 x2 x3 x4 (if x2 = (0 : Int) then (0 : Int) else (1 : Int)) G p2.1 p2.2
def q_X21_precincts_35 (x1 : Int) (x2 : Int) (x3 : Int) (x4 : Int) (G : Gt) (D : Dt) (c : Ct) : Option ((Unit ⊕ Nat) × (Dt × Ct)) :=
  q_X21_precincts_36 x1 x2 x3 x4 (0 : Int) G D c
def q_X21_precincts (x1 : Int) (x2 : Int) (x3 : Int) (x4 : Int) (G : Gt) (D : Dt) (c : Ct) : Option ((Unit ⊕ Nat) × (Dt × Ct)) :=
  gd (in32 ((d_I D 2101 (s_ G 21)) - (1 : Int))) <|
  lett (q_X21_is x1 (0 : Int) ((d_I D 2101 (s_ G 21)) - (1 : Int))) fun v1 =>
  if v1 = (0 : Int) then
    q_X21_precincts_35 x1 x2 x3 x4 G D c
  else
  bnd (l_Q G 16 2100 (s_ G 21) x1) fun w3 =>
  bnd w3 fun b4 =>
  lett (q_X21_is x2 (0 : Int) (d_I D 7202 b4)) fun v5 =>
  if v5 = (0 : Int) then
    q_X21_precincts_35 x1 x2 x3 x4 G D c
  else
  q_X21_precincts_36 x1 x2 x3 x4 (1 : Int) G D c
/-- LayeredPictures$PacketOrder.layers(II)V -/
def q_X21_layers_25 (x1 : Int) (x2 : Int) (ts0 : Int) (G : Gt) (D : Dt) (c : Ct) : Option ((Unit ⊕ Nat) × (Dt × Ct)) :=
  tht (q_X21_need ts0 G D c) fun _ p2 =>
  lett (u_I p2.1 2102 (s_ G 21) x1) fun d3 =>
  lett (u_I d3 2103 (s_ G 21) x2) fun d4 =>
  lett (u_I d4 2111 (s_ G 21) (0 : Int)) fun d5 =>
  some (.inl (), (d5, p2.2))
def q_X21_layers_24 (x1 : Int) (x2 : Int) (G : Gt) (D : Dt) (c : Ct) : Option ((Unit ⊕ Nat) × (Dt × Ct)) :=
  q_X21_layers_25 x1 x2 (0 : Int) G D c
def q_X21_layers (x1 : Int) (x2 : Int) (G : Gt) (D : Dt) (c : Ct) : Option ((Unit ⊕ Nat) × (Dt × Ct)) :=
  lett (q_X21_is x1 (1 : Int) (255 : Int)) fun v1 =>
  if v1 = (0 : Int) then
    q_X21_layers_24 x1 x2 G D c
  else
  lett (q_X21_is x2 (0 : Int) (4 : Int)) fun v2 =>
  if v2 = (0 : Int) then
    q_X21_layers_24 x1 x2 G D c
  else
  q_X21_layers_25 x1 x2 (1 : Int) G D c
/-- LayeredPictures$PacketOrder.clear()V -/
def q_X21_clear (G : Gt) (D : Dt) : Dt :=
  lett (u_I D 2106 (s_ G 21) (0 : Int)) fun d1 =>
  lett (u_I d1 2111 (s_ G 21) (0 : Int)) fun d2 =>
  d2
/-- LayeredPictures$PacketOrder$Change.set(IIIIII)V -/
def q_X22_set (a0 : Nat) (x1 : Int) (x2 : Int) (x3 : Int) (x4 : Int) (x5 : Int) (x6 : Int) (G : Gt) (D : Dt) : Dt :=
  lett (u_I D 2200 a0 x1) fun d1 =>
  lett (u_I d1 2201 a0 x2) fun d2 =>
  lett (u_I d2 2202 a0 x3) fun d3 =>
  lett (u_I d3 2203 a0 x4) fun d4 =>
  lett (u_I d4 2204 a0 x5) fun d5 =>
  lett (u_I d5 2205 a0 x6) fun d6 =>
  d6
/-- LayeredPictures$PacketOrder.change(IIIIII)I -/
def q_X21_change_120 (x1 : Int) (x2 : Int) (x3 : Int) (x4 : Int) (x5 : Int) (x6 : Int) (G : Gt) (D : Dt) (c : Ct) : Option ((Int ⊕ Nat) × (Dt × Gt × Ct)) :=
  bnd (l_Q G 32 2105 (s_ G 21) (d_I D 2106 (s_ G 21))) fun w2 =>
  bnd w2 fun b3 =>
  lett (q_X22_set b3 x1 x2 x3 x4 x5 x6 G D) fun d5 =>
  gd (in32 ((d_I D 2106 (s_ G 21)) + (1 : Int))) <|
  lett ((d_I D 2106 (s_ G 21)) + (1 : Int)) fun v7 =>
  lett (u_I d5 2106 (s_ G 21) v7) fun d6 =>
  lett (u_I d6 2111 (s_ G 21) (0 : Int)) fun d8 =>
  some (.inl v7, (d8, G, c))
def q_X21_change_89 (x1 : Int) (x2 : Int) (x3 : Int) (x4 : Int) (x5 : Int) (x6 : Int) (ts0 : Int) (G : Gt) (D : Dt) (c : Ct) : Option ((Int ⊕ Nat) × (Dt × Gt × Ct)) :=
  thu (fun p => (p.1, G, p.2)) (q_X21_must ts0 G D c) fun _ p2 =>
  bnd (l_Q G 32 2105 (s_ G 21) (d_I D 2106 (s_ G 21))) fun w4 =>
  if w4 = none then
    lett p2.2.1 fun b6 =>
    bnd (mk_22 p2.1 G p2.2) fun p7 =>
    bnd (t_Q p7.2.1 32 2105 (s_ G 21) (d_I D 2106 (s_ G 21)) (some b6)) fun g9 =>
    q_X21_change_120 x1 x2 x3 x4 x5 x6 g9 p7.1 p7.2.2
  else
  q_X21_change_120 x1 x2 x3 x4 x5 x6 G p2.1 p2.2
def q_X21_change_72 (x1 : Int) (x2 : Int) (x3 : Int) (x4 : Int) (x5 : Int) (x6 : Int) (ts0 : Int) (G : Gt) (D : Dt) (c : Ct) : Option ((Int ⊕ Nat) × (Dt × Gt × Ct)) :=
  thu (fun p => (p.1, G, p.2)) (q_X21_need ts0 G D c) fun _ p2 =>
  q_X21_change_89 x1 x2 x3 x4 x5 x6 (if (32 : Int) ≤ (d_I D 2106 (s_ G 21)) then (0 : Int) else (1 : Int)) G p2.1 p2.2
def q_X21_change_71 (x1 : Int) (x2 : Int) (x3 : Int) (x4 : Int) (x5 : Int) (x6 : Int) (G : Gt) (D : Dt) (c : Ct) : Option ((Int ⊕ Nat) × (Dt × Gt × Ct)) :=
  q_X21_change_72 x1 x2 x3 x4 x5 x6 (0 : Int) G D c
def q_X21_change (x1 : Int) (x2 : Int) (x3 : Int) (x4 : Int) (x5 : Int) (x6 : Int) (G : Gt) (D : Dt) (c : Ct) : Option ((Int ⊕ Nat) × (Dt × Gt × Ct)) :=
  lett (q_X21_is x1 (0 : Int) (32 : Int)) fun v1 =>
  if v1 = (0 : Int) then
    q_X21_change_71 x1 x2 x3 x4 x5 x6 G D c
  else
  gd (in32 (x1 + (1 : Int))) <|
  lett (q_X21_is x2 (x1 + (1 : Int)) (33 : Int)) fun v2 =>
  if v2 = (0 : Int) then
    q_X21_change_71 x1 x2 x3 x4 x5 x6 G D c
  else
  lett (q_X21_is x3 (0 : Int) (15 : Int)) fun v3 =>
  if v3 = (0 : Int) then
    q_X21_change_71 x1 x2 x3 x4 x5 x6 G D c
  else
  gd (in32 (x3 + (1 : Int))) <|
  lett (q_X21_is x4 (x3 + (1 : Int)) (16 : Int)) fun v4 =>
  if v4 = (0 : Int) then
    q_X21_change_71 x1 x2 x3 x4 x5 x6 G D c
  else
  lett (q_X21_is x5 (1 : Int) (255 : Int)) fun v5 =>
  if v5 = (0 : Int) then
    q_X21_change_71 x1 x2 x3 x4 x5 x6 G D c
  else
  lett (q_X21_is x6 (0 : Int) (4 : Int)) fun v6 =>
  if v6 = (0 : Int) then
    q_X21_change_71 x1 x2 x3 x4 x5 x6 G D c
  else
  q_X21_change_72 x1 x2 x3 x4 x5 x6 (1 : Int) G D c
/-- LayeredPictures$PacketOrder$Area.isEmpty()Z -/
def q_X24_isEmpty (a0 : Nat) (G : Gt) (D : Dt) : Int :=
  if (d_I D 2402 a0) ≤ (d_I D 2400 a0) then
    (1 : Int)
  else
  if (d_I D 2401 a0) < (d_I D 2403 a0) then
    (0 : Int)
  else
  (1 : Int)
/-- LayeredPictures$PacketOrder$Tile.stream(ILLayeredPictures$PacketOrder$Component;I)LLayeredPictures$PacketOrder$Stream; -/
def q_X23_stream_67 (N : Nat) (x4 : Int) (G : Gt) (D : Dt) (c : Ct) : Option ((Option Nat) × (Dt × Gt × Ct)) :=
  bnd (l_Q G 528 2302 (s_ G 23) x4) fun w2 =>
  some (w2, (D, G, c))
def q_X23_stream_30 (N : Nat) (x1 : Int) (r2 : Nat) (x3 : Int) (x4 : Int) (G : Gt) (D : Dt) (c : Ct) : Option ((Option Nat) × (Dt × Gt × Ct)) :=
  bnd (l_Q G 528 2302 (s_ G 23) x4) fun w2 =>
  if w2 = none then
    lett c.1 fun b4 =>
    bnd (l_Q G 16 2301 (s_ G 23) x1) fun w6 =>
    bnd w6 fun b7 =>
    bnd (l_E G 33 7301 b7 x3) fun w9 =>
    bnd (mk_76 D G c x1 r2 w9) fun p10 =>
    bnd (t_Q p10.2.1 528 2302 (s_ G 23) x4 (some b4)) fun g12 =>
    q_X23_stream_67 N x4 g12 p10.1 p10.2.2
  else
  q_X23_stream_67 N x4 G D c
def q_X23_stream (N : Nat) (x1 : Int) (r2 : Nat) (x3 : Int) (G : Gt) (D : Dt) (c : Ct) : Option ((Option Nat) × (Dt × Gt × Ct)) :=
  gd (in32 (x1 * (33 : Int))) <|
  gd (in32 ((x1 * (33 : Int)) + x3)) <|
  lett ((x1 * (33 : Int)) + x3) fun v1 =>
  bnd (l_Q G 16 2301 (s_ G 23) x1) fun w3 =>
  if w3 = none then
    lett c.1 fun b5 =>
    bnd (mk_73 D G c) fun p6 =>
    bnd (t_Q p6.2.1 16 2301 (s_ G 23) x1 (some b5)) fun g8 =>
    q_X23_stream_30 N x1 r2 x3 v1 g8 p6.1 p6.2.2
  else
  q_X23_stream_30 N x1 r2 x3 v1 G D c
/-- LayeredPictures$PacketOrder$Area.up(JJ)I -/
def q_X24_up (x0 : Int) (x2 : Int) : Option Int :=
  if (0 : Int) < x0 then
    gd (in64 (x0 + x2)) <|
    gd (in64 ((x0 + x2) - (1 : Int))) <|
    gd (¬ x2 = 0) <|
    gd (in64 (Int.tdiv ((x0 + x2) - (1 : Int)) x2)) <|
    gd (in32 (Int.tdiv ((x0 + x2) - (1 : Int)) x2)) <|
    some (Int.tdiv ((x0 + x2) - (1 : Int)) x2)
  else
  some (0 : Int)
/-- LayeredPictures$PacketOrder$Area.divide(LLayeredPictures$PacketOrder$Area;JJJJ)V -/
def q_X24_divide (a0 : Nat) (r1 : Nat) (x2 : Int) (x4 : Int) (x6 : Int) (x8 : Int) (G : Gt) (D : Dt) : Option Dt :=
  gd (in64 ((d_I D 2400 r1) - x2)) <|
  bnd (q_X24_up ((d_I D 2400 r1) - x2) x6) fun v2 =>
  gd (in64 ((d_I D 2401 r1) - x4)) <|
  bnd (q_X24_up ((d_I D 2401 r1) - x4) x8) fun v3 =>
  gd (in64 ((d_I D 2402 r1) - x2)) <|
  bnd (q_X24_up ((d_I D 2402 r1) - x2) x6) fun v4 =>
  gd (in64 ((d_I D 2403 r1) - x4)) <|
  bnd (q_X24_up ((d_I D 2403 r1) - x4) x8) fun v5 =>
  lett (q_X24_set a0 v2 v3 v4 v5 G D) fun d7 =>
  some d7
/-- LayeredPictures$PacketOrder$Area.columns(I)I -/
def q_X24_columns (a0 : Nat) (x1 : Int) (G : Gt) (D : Dt) : Option Int :=
  lett (q_X24_isEmpty a0 G D) fun v1 =>
  if v1 = (0 : Int) then
    gd (in32 ((d_I D 2402 a0) - (1 : Int))) <|
    gd (in32 ((((d_I D 2402 a0) - (1 : Int)) / (p2 x1)) - ((d_I D 2400 a0) / (p2 x1)))) <|
    gd (in32 (((((d_I D 2402 a0) - (1 : Int)) / (p2 x1)) - ((d_I D 2400 a0) / (p2 x1))) + (1 : Int))) <|
    some (((((d_I D 2402 a0) - (1 : Int)) / (p2 x1)) - ((d_I D 2400 a0) / (p2 x1))) + (1 : Int))
  else
  some (0 : Int)
/-- LayeredPictures$PacketOrder$Area.rows(I)I -/
def q_X24_rows (a0 : Nat) (x1 : Int) (G : Gt) (D : Dt) : Option Int :=
  lett (q_X24_isEmpty a0 G D) fun v1 =>
  if v1 = (0 : Int) then
    gd (in32 ((d_I D 2403 a0) - (1 : Int))) <|
    gd (in32 ((((d_I D 2403 a0) - (1 : Int)) / (p2 x1)) - ((d_I D 2401 a0) / (p2 x1)))) <|
    gd (in32 (((((d_I D 2403 a0) - (1 : Int)) / (p2 x1)) - ((d_I D 2401 a0) / (p2 x1))) + (1 : Int))) <|
    some (((((d_I D 2403 a0) - (1 : Int)) / (p2 x1)) - ((d_I D 2401 a0) / (p2 x1))) + (1 : Int))
  else
  some (0 : Int)
/-- LayeredPictures$PacketOrder$Band.oddX()I -/
def q_X75_oddX (a0 : Nat) (G : Gt) (D : Dt) : Int :=
  ((d_I D 7500 a0) % (2 : Int))
/-- LayeredPictures$PacketOrder$Band.oddY()I -/
def q_X75_oddY (a0 : Nat) (G : Gt) (D : Dt) : Int :=
  ((d_I D 7500 a0) / (2 : Int))
/-- LayeredPictures$PacketOrder$Band.lay(LLayeredPictures$PacketOrder$Area;LLayeredPictures$PacketOrder$Component;I)V -/
def q_X75_lay_37 (a0 : Nat) (r1 : Nat) (a2 : Nat) (x3 : Int) (x4 : Int) (x5 : Int) (ts0 : Int) (G : Gt) (D : Dt) : Option Dt :=
  lett (q_X75_oddX a0 G D) fun v1 =>
  gd (in64 (v1 * ts0)) <|
  lett (q_X75_oddY a0 G D) fun v2 =>
  gd (in64 (v2 * ts0)) <|
  gd (in64 (p2l x5)) <|
  bnd (q_X24_divide (z_P G 7501 a0) r1 (v1 * ts0) (v2 * ts0) (p2l x5) (p2l x5) G D) fun d5 =>
  bnd (l_A D 33 7205 a2 x3) fun v7 =>
  gd (in32 (v7 - x4)) <|
  lett (v7 - x4) fun v9 =>
  lett (u_I d5 7502 a0 v9) fun d8 =>
  bnd (l_A D 33 7206 a2 x3) fun v11 =>
  gd (in32 (v11 - x4)) <|
  lett (v11 - x4) fun v13 =>
  lett (u_I d8 7503 a0 v13) fun d12 =>
  lett (min (d_I D 7203 a2) v9) fun v15 =>
  lett (u_I d12 7504 a0 v15) fun d14 =>
  lett (min (d_I D 7204 a2) v13) fun v17 =>
  lett (u_I d14 7505 a0 v17) fun d16 =>
  some d16
def q_X75_lay_9 (a0 : Nat) (r1 : Nat) (r2 : Nat) (x3 : Int) (ts0 : Int) (G : Gt) (D : Dt) : Option Dt :=
  gd (in32 ((d_I D 7202 r2) - x3)) <|
  gd (in32 (((d_I D 7202 r2) - x3) + ts0)) <|
  lett (((d_I D 7202 r2) - x3) + ts0) fun v2 =>
  if v2 = (0 : Int) then
    q_X75_lay_37 a0 r1 r2 x3 ts0 v2 (0 : Int) G D
  else
  gd (in32 (v2 - (1 : Int))) <|
  gd (in64 (p2l (v2 - (1 : Int)))) <|
  q_X75_lay_37 a0 r1 r2 x3 ts0 v2 (p2l (v2 - (1 : Int))) G D
def q_X75_lay (a0 : Nat) (r1 : Nat) (r2 : Nat) (x3 : Int) (G : Gt) (D : Dt) : Option Dt :=
  q_X75_lay_9 a0 r1 r2 x3 (if x3 = (0 : Int) then (0 : Int) else (1 : Int)) G D
/-- LayeredPictures$PacketOrder$Level.lay(LLayeredPictures$PacketOrder$Area;LLayeredPictures$PacketOrder$Component;)V -/
def q_X74_lay_94 (N : Nat) : Nat → Nat → Nat → Nat → Nat → Int → Int → Gt → Dt → Option Dt
  | 0, _, _, _, _, _, _, _, _ => none
  | n + 1, a0, r1, a2, a5, x6, x7, G, D =>
    if x6 ≤ x7 then
      some D
    else
    bnd (l_E G (z_N G 7402 a5) 7402 a5 x7) fun w1 =>
    bnd (q_X75_lay w1 r1 a2 (d_I D 7400 a0) G D) fun d4 =>
    gd (in32 (x7 + (1 : Int))) <|
    lett (x7 + (1 : Int)) fun v5 =>
    q_X74_lay_94 N n a0 r1 a2 a5 x6 v5 G d4
def q_X74_lay (N : Nat) (a0 : Nat) (r1 : Nat) (r2 : Nat) (G : Gt) (D : Dt) : Option Dt :=
  gd (in32 ((d_I D 7202 r2) - (d_I D 7400 a0))) <|
  gd (in64 (p2l ((d_I D 7202 r2) - (d_I D 7400 a0)))) <|
  lett (p2l ((d_I D 7202 r2) - (d_I D 7400 a0))) fun v2 =>
  bnd (q_X24_divide (z_P G 7401 a0) r1 (0 : Int) (0 : Int) v2 v2 G D) fun d5 =>
  bnd (l_A D 33 7205 r2 (d_I D 7400 a0)) fun v7 =>
  lett (u_I d5 7403 a0 v7) fun d8 =>
  bnd (l_A D 33 7206 r2 (d_I D 7400 a0)) fun v10 =>
  lett (u_I d8 7404 a0 v10) fun d11 =>
  bnd (q_X24_columns (z_P G 7401 a0) v7 G d11) fun v13 =>
  lett (u_I d11 7405 a0 v13) fun d14 =>
  bnd (q_X24_rows (z_P G 7401 a0) v10 G d14) fun v16 =>
  lett (u_I d14 7406 a0 v16) fun d17 =>
  lett ((z_N G 7402 a0 : Nat) : Int) fun v20 =>
  q_X74_lay_94 N N a0 r1 r2 a0 v20 (0 : Int) G d17
/-- LayeredPictures$PacketOrder$Part.lay(LLayeredPictures$PacketOrder$Area;LLayeredPictures$PacketOrder$Component;)V -/
def q_X73_lay_30 (N : Nat) : Nat → Nat → Nat → Int → Gt → Dt → Option Dt
  | 0, _, _, _, _, _ => none
  | n + 1, a0, a2, x3, G, D =>
    if (d_I D 7302 a0) < x3 then
      some D
    else
    bnd (l_E G 33 7301 a0 x3) fun w2 =>
    bnd (q_X74_lay N w2 (z_P G 7300 a0) a2 G D) fun d5 =>
    gd (in32 (x3 + (1 : Int))) <|
    lett (x3 + (1 : Int)) fun v6 =>
    q_X73_lay_30 N n a0 a2 v6 G d5
def q_X73_lay (N : Nat) (a0 : Nat) (r1 : Nat) (r2 : Nat) (G : Gt) (D : Dt) : Option Dt :=
  lett (d_I D 7202 r2) fun v3 =>
  lett (u_I D 7302 a0 v3) fun d2 =>
  bnd (q_X24_divide (z_P G 7300 a0) r1 (0 : Int) (0 : Int) (d_I D 7200 r2) (d_I D 7201 r2) G d2) fun d6 =>
  q_X73_lay_30 N N a0 r2 (0 : Int) G d6
/-- LayeredPictures$PacketOrder$Level.precincts()I -/
def q_X74_precincts (a0 : Nat) (G : Gt) (D : Dt) : Option Int :=
  gd (in32 ((d_I D 7405 a0) * (d_I D 7406 a0))) <|
  some ((d_I D 7405 a0) * (d_I D 7406 a0))
/-- LayeredPictures$PacketOrder$Tile.lay([LLayeredPictures$PacketOrder$Component;I)Z -/
def q_X23_lay_117 (N : Nat) (k15 : Nat → Int → Int → Int → Gt → Dt → Ct → Option (Int × (Dt × Gt × Ct))) (k54 : Nat → Int → Int → Int → Int → Gt → Dt → Ct → Option (Int × (Dt × Gt × Ct))) (a1 : Nat) (x2 : Int) (x4 : Int) (x5 : Int) (a6 : Nat) (ts0 : Int) (G : Gt) (D : Dt) (c : Ct) : Option (Int × (Dt × Gt × Ct)) :=
  bnd (q_X74_precincts (z_P G 7602 a6) G D) fun v2 =>
  gd (in32 ((d_I D 2304 (s_ G 23)) + v2)) <|
  lett ((d_I D 2304 (s_ G 23)) + v2) fun v4 =>
  lett (u_I D 2304 (s_ G 23) v4) fun d3 =>
  gd (in32 (x5 + (1 : Int))) <|
  lett (x5 + (1 : Int)) fun v5 =>
  k54 a1 x2 ts0 x4 v5 G d3 c
def q_X23_lay_54 (N : Nat) (k15 : Nat → Int → Int → Int → Gt → Dt → Ct → Option (Int × (Dt × Gt × Ct))) : Nat → Nat → Int → Int → Int → Int → Gt → Dt → Ct → Option (Int × (Dt × Gt × Ct))
  | 0, _, _, _, _, _, _, _, _ => none
  | n + 1, a1, x2, x3, x4, x5, G, D, c =>
    bnd (l_Q G 16 2100 a1 x4) fun w1 =>
    bnd w1 fun b2 =>
    if (d_I D 7202 b2) < x5 then
      gd (in32 (x4 + (1 : Int))) <|
      lett (x4 + (1 : Int)) fun v3 =>
      k15 a1 x2 x3 v3 G D c
    else
    if x3 = (0 : Int) then
      gd (in32 (x4 + (1 : Int))) <|
      lett (x4 + (1 : Int)) fun v4 =>
      k15 a1 x2 x3 v4 G D c
    else
    bnd (l_Q G 16 2100 a1 x4) fun w5 =>
    bnd w5 fun b6 =>
    bnd2 (q_X23_stream N x4 b6 x5 G D c) fun w9 p8 =>
    bnd w9 fun b10 =>
    lett (d_I D 2304 (s_ p8.2.1 23)) fun v12 =>
    lett (u_I p8.1 7603 b10 v12) fun d11 =>
    bnd (q_X74_precincts (z_P p8.2.1 7602 b10) p8.2.1 d11) fun v14 =>
    gd (in32 ((4096 : Int) - (d_I D 2304 (s_ p8.2.1 23)))) <|
    q_X23_lay_117 N k15 (q_X23_lay_54 N k15 n) a1 x2 x4 x5 b10 (if ((4096 : Int) - (d_I D 2304 (s_ p8.2.1 23))) < v14 then (0 : Int) else (1 : Int)) p8.2.1 d11 p8.2.2
def q_X23_lay_150 (N : Nat) : Nat → Int → Int → Gt → Dt → Ct → Option (Int × (Dt × Gt × Ct))
  | 0, _, _, _, _, _ => none
  | n + 1, x3, x4, G, D, c =>
    if (4096 : Int) ≤ x4 then
      gd (bzi x3) <|
      some (x3, (D, G, c))
    else
    bnd (t_A D 4096 2305 (s_ G 23) x4 (tos (0 : Int))) fun d2 =>
    gd (in32 (x4 + (1 : Int))) <|
    lett (x4 + (1 : Int)) fun v3 =>
    q_X23_lay_150 N n x3 v3 G d2 c
def q_X23_lay_15 (N : Nat) : Nat → Nat → Int → Int → Int → Gt → Dt → Ct → Option (Int × (Dt × Gt × Ct))
  | 0, _, _, _, _, _, _, _ => none
  | n + 1, r1, x2, x3, x4, G, D, c =>
    if x2 ≤ x4 then
      q_X23_lay_150 N N x3 (0 : Int) G D c
    else
    bnd (l_Q G 16 2100 r1 x4) fun w2 =>
    bnd w2 fun b3 =>
    bnd2 (q_X23_stream N x4 b3 (0 : Int) G D c) fun w6 p5 =>
    bnd (l_Q p5.2.1 16 2301 (s_ p5.2.1 23) x4) fun w8 =>
    bnd (l_Q p5.2.1 16 2100 r1 x4) fun w9 =>
    bnd w8 fun b10 =>
    bnd w9 fun b11 =>
    bnd (q_X73_lay N b10 (z_P p5.2.1 2300 (s_ p5.2.1 23)) b11 p5.2.1 p5.1) fun d13 =>
    q_X23_lay_54 N (q_X23_lay_15 N n) N r1 x2 x3 x4 (0 : Int) p5.2.1 d13 p5.2.2
def q_X23_lay (N : Nat) (r1 : Nat) (x2 : Int) (G : Gt) (D : Dt) (c : Ct) : Option (Int × (Dt × Gt × Ct)) :=
  lett (u_I D 2303 (s_ G 23) x2) fun d1 =>
  lett (u_I d1 2304 (s_ G 23) (0 : Int)) fun d2 =>
  q_X23_lay_15 N N r1 x2 (1 : Int) (0 : Int) G d2 c
/-- LayeredPictures$PacketOrder.begin()I -/
def q_X21_begin_25 (N : Nat) (ts0 : Int) (G : Gt) (D : Dt) (c : Ct) : Option ((Int ⊕ Nat) × (Dt × Gt × Ct)) :=
  thu (fun p => (p.1, G, p.2)) (q_X21_must ts0 G D c) fun _ p2 =>
  lett (u_I p2.1 2111 (s_ G 21) (0 : Int)) fun d3 =>
  bnd2 (q_X23_lay N (s_ G 21) (d_I D 2101 (s_ G 21)) G d3 p2.2) fun v7 p6 =>
  if v7 = (0 : Int) then
    some (.inr 3, (p6.1, p6.2.1, (c_al p6.2.2 6)))
  else
  lett (u_I p6.1 2111 (s_ p6.2.1 21) (1 : Int)) fun d8 =>
  lett (u_R d8 2503 (s_ p6.2.1 25) none) fun d10 =>
  lett (u_I d10 2112 (s_ p6.2.1 21) (-1 : Int)) fun d11 =>
  lett (u_R d11 2113 (s_ p6.2.1 21) none) fun d12 =>
  lett (q_X22_set (z_P p6.2.1 2104 (s_ p6.2.1 21)) (0 : Int) (33 : Int) (0 : Int) (16 : Int) (d_I D 2102 (s_ p6.2.1 21)) (d_I D 2103 (s_ p6.2.1 21)) p6.2.1 d12) fun d15 =>
  gd (in32 ((d_I p6.1 2304 (s_ p6.2.1 23)) * (d_I D 2102 (s_ p6.2.1 21)))) <|
  some (.inl ((d_I p6.1 2304 (s_ p6.2.1 23)) * (d_I D 2102 (s_ p6.2.1 21))), (d15, p6.2.1, p6.2.2))
def q_X21_begin_24 (N : Nat) (G : Gt) (D : Dt) (c : Ct) : Option ((Int ⊕ Nat) × (Dt × Gt × Ct)) :=
  q_X21_begin_25 N (0 : Int) G D c
def q_X21_begin (N : Nat) (G : Gt) (D : Dt) (c : Ct) : Option ((Int ⊕ Nat) × (Dt × Gt × Ct)) :=
  lett (q_X24_isEmpty (z_P G 2300 (s_ G 23)) G D) fun v3 =>
  if v3 = (0 : Int) then
    if (d_I D 2101 (s_ G 21)) ≤ (0 : Int) then
      q_X21_begin_24 N G D c
    else
    q_X21_begin_25 N (1 : Int) G D c
  else
  q_X21_begin_24 N G D c
/-- LayeredPictures$PacketOrder$Tile.of(II)LLayeredPictures$PacketOrder$Stream; -/
def q_X23_of (x1 : Int) (x2 : Int) (G : Gt) (D : Dt) : Option (Option Nat) :=
  if x1 < (0 : Int) then
    some none
  else
  if (d_I D 2303 (s_ G 23)) ≤ x1 then
    some none
  else
  if x2 < (0 : Int) then
    some none
  else
  bnd (l_Q G 16 2301 (s_ G 23) x1) fun w2 =>
  bnd w2 fun b3 =>
  if x2 ≤ (d_I D 7302 b3) then
    gd (in32 (x1 * (33 : Int))) <|
    gd (in32 ((x1 * (33 : Int)) + x2)) <|
    bnd (l_Q G 528 2302 (s_ G 23) ((x1 * (33 : Int)) + x2)) fun w5 =>
    some w5
  else
  some none
/-- LayeredPictures$PacketOrder$Walk.take(LLayeredPictures$PacketOrder$Stream;II)Z -/
def q_X26_take (a0 : Nat) (r1 : Nat) (x2 : Int) (x3 : Int) (G : Gt) (D : Dt) : Option (Int × Dt) :=
  gd (in32 ((d_I D 7603 r1) + x2)) <|
  lett ((d_I D 7603 r1) + x2) fun v2 =>
  bnd (d_R D 2600 a0) fun b3 =>
  bnd (l_A D 4096 2305 (s_ G 23) v2) fun v5 =>
  if v5 ≤ x3 then
    bnd (d_R D 2600 a0) fun b6 =>
    bnd (l_A D 4096 2305 (s_ G 23) v2) fun v9 =>
    gd (in32 (v9 + (1 : Int))) <|
    bnd (t_A D 4096 2305 (s_ G 23) v2 (tos (tos (v9 + (1 : Int))))) fun d10 =>
    lett (u_R d10 2503 (s_ G 25) (some r1)) fun d12 =>
    lett (u_I d12 2501 (s_ G 25) x2) fun d14 =>
    lett (u_I d14 2500 (s_ G 25) x3) fun d16 =>
    some ((1 : Int), d16)
  else
  some ((0 : Int), D)
/-- LayeredPictures$PacketOrder$Counting.turn(Z)Z -/
def q_X27_turn_144 (G : Gt) (D : Dt) : Option (Int × Dt) :=
  bnd (d_R D 2601 (s_ G 27)) fun b1 =>
  if (d_I D 2204 b1) ≤ (d_I D 2603 (s_ G 27)) then
    some ((0 : Int), D)
  else
  bnd (d_R D 2601 (s_ G 27)) fun b2 =>
  if (d_I D 2201 b2) ≤ (d_I D 2704 (s_ G 27)) then
    some ((0 : Int), D)
  else
  some ((1 : Int), D)
def q_X27_turn_111 (x1 : Int) (G : Gt) (D : Dt) : Option (Int × Dt) :=
  if x1 = (0 : Int) then
    bnd (d_R D 2601 (s_ G 27)) fun b1 =>
    if (d_I D 2603 (s_ G 27)) = (d_I D 2204 b1) then
      lett (u_I D 2603 (s_ G 27) (0 : Int)) fun d2 =>
      gd (in32 ((d_I D 2704 (s_ G 27)) + (1 : Int))) <|
      lett ((d_I D 2704 (s_ G 27)) + (1 : Int)) fun v4 =>
      lett (u_I d2 2704 (s_ G 27) v4) fun d3 =>
      q_X27_turn_144 G d3
    else
    q_X27_turn_144 G D
  else
  q_X27_turn_144 G D
def q_X27_turn_69 (x1 : Int) (G : Gt) (D : Dt) : Option (Int × Dt) :=
  if x1 = (0 : Int) then
    q_X27_turn_111 x1 G D
  else
  bnd (d_R D 2601 (s_ G 27)) fun b1 =>
  if (d_I D 2704 (s_ G 27)) = (d_I D 2201 b1) then
    bnd (d_R D 2601 (s_ G 27)) fun b2 =>
    lett (d_I D 2200 b2) fun v4 =>
    lett (u_I D 2704 (s_ G 27) v4) fun d3 =>
    gd (in32 ((d_I D 2603 (s_ G 27)) + (1 : Int))) <|
    lett ((d_I D 2603 (s_ G 27)) + (1 : Int)) fun v6 =>
    lett (u_I d3 2603 (s_ G 27) v6) fun d5 =>
    q_X27_turn_144 G d5
  else
  q_X27_turn_111 x1 G D
def q_X27_turn (x1 : Int) (G : Gt) (D : Dt) : Option (Int × Dt) :=
  lett (u_I D 2706 (s_ G 27) (0 : Int)) fun d1 =>
  gd (in32 ((d_I D 2705 (s_ G 27)) + (1 : Int))) <|
  lett ((d_I D 2705 (s_ G 27)) + (1 : Int)) fun v3 =>
  lett (u_I d1 2705 (s_ G 27) v3) fun d2 =>
  bnd (d_R D 2601 (s_ G 27)) fun b4 =>
  if (d_I D 2203 b4) ≤ v3 then
    bnd (d_R D 2601 (s_ G 27)) fun b5 =>
    lett (d_I D 2202 b5) fun v7 =>
    lett (u_I d2 2705 (s_ G 27) v7) fun d6 =>
    if x1 = (0 : Int) then
      gd (in32 ((d_I D 2603 (s_ G 27)) + (1 : Int))) <|
      lett ((d_I D 2603 (s_ G 27)) + (1 : Int)) fun v9 =>
      lett (u_I d6 2603 (s_ G 27) v9) fun d8 =>
      q_X27_turn_69 x1 G d8
    else
    gd (in32 ((d_I D 2704 (s_ G 27)) + (1 : Int))) <|
    lett ((d_I D 2704 (s_ G 27)) + (1 : Int)) fun v11 =>
    lett (u_I d6 2704 (s_ G 27) v11) fun d10 =>
    q_X27_turn_69 x1 G d10
  else
  some ((1 : Int), d2)
/-- LayeredPictures$PacketOrder$Counting.next()Z -/
def q_X27_next_110 (N : Nat) (k30 : Gt → Dt → Option (Int × Dt)) (ts0 : Int) (G : Gt) (D : Dt) : Option (Int × Dt) :=
  bnd2 (q_X27_turn ts0 G D) fun v3 d2 =>
  if v3 = (0 : Int) then
    some ((0 : Int), d2)
  else
  k30 G d2
def q_X27_next_94 (N : Nat) (k30 : Gt → Dt → Option (Int × Dt)) (G : Gt) (D : Dt) : Option (Int × Dt) :=
  bnd (d_R D 2601 (s_ G 27)) fun b1 =>
  q_X27_next_110 N k30 (if (d_I D 2205 b1) = (0 : Int) then (1 : Int) else (0 : Int)) G D
def q_X27_next_46 (N : Nat) (k30 : Gt → Dt → Option (Int × Dt)) : Nat → Option Nat → Gt → Dt → Option (Int × Dt)
  | 0, _, _, _ => none
  | n + 1, r1, G, D =>
    if r1 = none then
      q_X27_next_94 N k30 G D
    else
    bnd r1 fun b1 =>
    bnd (q_X74_precincts (z_P G 7602 b1) G D) fun v3 =>
    if v3 ≤ (d_I D 2706 (s_ G 27)) then
      q_X27_next_94 N k30 G D
    else
    gd (in32 ((d_I D 2706 (s_ G 27)) + (1 : Int))) <|
    lett ((d_I D 2706 (s_ G 27)) + (1 : Int)) fun v5 =>
    lett (u_I D 2706 (s_ G 27) v5) fun d4 =>
    gd (in32 (v5 - (1 : Int))) <|
    bnd2 (q_X26_take (s_ G 27) b1 (v5 - (1 : Int)) (d_I D 2603 (s_ G 27)) G d4) fun v8 d7 =>
    if v8 = (0 : Int) then
      q_X27_next_46 N k30 n (some b1) G d7
    else
    some ((1 : Int), d7)
def q_X27_next_30 (N : Nat) : Nat → Gt → Dt → Option (Int × Dt)
  | 0, _, _ => none
  | n + 1, G, D =>
    bnd (d_R D 2600 (s_ G 27)) fun b1 =>
    bnd (q_X23_of (d_I D 2705 (s_ G 27)) (d_I D 2704 (s_ G 27)) G D) fun w2 =>
    q_X27_next_46 N (q_X27_next_30 N n) N w2 G D
def q_X27_next (N : Nat) (G : Gt) (D : Dt) : Option (Int × Dt) :=
  bnd (d_R D 2601 (s_ G 27)) fun b1 =>
  if (d_I D 2204 b1) ≤ (d_I D 2603 (s_ G 27)) then
    some ((0 : Int), D)
  else
  bnd (d_R D 2601 (s_ G 27)) fun b2 =>
  if (d_I D 2704 (s_ G 27)) < (d_I D 2201 b2) then
    q_X27_next_30 N N G D
  else
  some ((0 : Int), D)
/-- LayeredPictures$PacketOrder$Merging.layers()Z -/
def q_X28_layers_0 (N : Nat) : Nat → Gt → Dt → Option (Int × Dt)
  | 0, _, _ => none
  | n + 1, G, D =>
    if (d_R D 2804 (s_ G 28)) = none then
      some ((0 : Int), D)
    else
    bnd (d_R D 2601 (s_ G 28)) fun b1 =>
    if (d_I D 2204 b1) ≤ (d_I D 2603 (s_ G 28)) then
      some ((0 : Int), D)
    else
    gd (in32 ((d_I D 2603 (s_ G 28)) + (1 : Int))) <|
    lett ((d_I D 2603 (s_ G 28)) + (1 : Int)) fun v3 =>
    lett (u_I D 2603 (s_ G 28) v3) fun d2 =>
    bnd (d_R D 2804 (s_ G 28)) fun b4 =>
    gd (in32 (v3 - (1 : Int))) <|
    bnd2 (q_X26_take (s_ G 28) b4 (d_I D 7604 b4) (v3 - (1 : Int)) G d2) fun v7 d6 =>
    if v7 = (0 : Int) then
      q_X28_layers_0 N n G d6
    else
    some ((1 : Int), d6)
def q_X28_layers (N : Nat) (G : Gt) (D : Dt) : Option (Int × Dt) :=
  q_X28_layers_0 N N G D
/-- LayeredPictures$PacketOrder$Change.takes(LLayeredPictures$PacketOrder$Stream;)Z -/
def q_X22_takes (a0 : Nat) (r1 : Nat) (G : Gt) (D : Dt) : Int :=
  if (d_I D 7400 (z_P G 7602 r1)) < (d_I D 2200 a0) then
    (0 : Int)
  else
  if (d_I D 2201 a0) ≤ (d_I D 7400 (z_P G 7602 r1)) then
    (0 : Int)
  else
  if (d_I D 7600 r1) < (d_I D 2202 a0) then
    (0 : Int)
  else
  if (d_I D 2203 a0) ≤ (d_I D 7600 r1) then
    (0 : Int)
  else
  (1 : Int)
/-- LayeredPictures$PacketOrder$Merging.isIn(LLayeredPictures$PacketOrder$Stream;)Z -/
def q_X28_isIn (r1 : Nat) (G : Gt) (D : Dt) : Option Int :=
  bnd (d_R D 2601 (s_ G 28)) fun b1 =>
  if (d_I D 2205 b1) = (2 : Int) then
    if (d_I D 7400 (z_P G 7602 r1)) = (d_I D 2805 (s_ G 28)) then
      some (1 : Int)
    else
    some (0 : Int)
  else
  bnd (d_R D 2601 (s_ G 28)) fun b4 =>
  if (d_I D 2205 b4) = (3 : Int) then
    some (1 : Int)
  else
  if (d_I D 7600 r1) = (d_I D 2805 (s_ G 28)) then
    some (1 : Int)
  else
  some (0 : Int)
/-- LayeredPictures$PacketOrder$Stream.isDone()Z -/
def q_X76_isDone (a0 : Nat) (G : Gt) (D : Dt) : Option Int :=
  bnd (q_X74_precincts (z_P G 7602 a0) G D) fun v2 =>
  if (d_I D 7604 a0) < v2 then
    some (0 : Int)
  else
  some (1 : Int)
/-- LayeredPictures$PacketOrder$Level.row(I)I -/
def q_X74_row (a0 : Nat) (x1 : Int) (G : Gt) (D : Dt) : Option Int :=
  gd (¬ (d_I D 7405 a0) = 0) <|
  gd (in32 (Int.tdiv x1 (d_I D 7405 a0))) <|
  gd (in32 (((d_I D 2401 (z_P G 7401 a0)) / (p2 (d_I D 7404 a0))) + (Int.tdiv x1 (d_I D 7405 a0)))) <|
  some (((d_I D 2401 (z_P G 7401 a0)) / (p2 (d_I D 7404 a0))) + (Int.tdiv x1 (d_I D 7405 a0)))
/-- LayeredPictures$PacketOrder$Stream.scale()J -/
def q_X76_scale (a0 : Nat) (G : Gt) (D : Dt) : Option Int :=
  gd (in32 ((d_I D 7202 (z_P G 7601 a0)) - (d_I D 7400 (z_P G 7602 a0)))) <|
  gd (in64 (p2l ((d_I D 7202 (z_P G 7601 a0)) - (d_I D 7400 (z_P G 7602 a0))))) <|
  some (p2l ((d_I D 7202 (z_P G 7601 a0)) - (d_I D 7400 (z_P G 7602 a0))))
/-- LayeredPictures$PacketOrder$Stream.y(LLayeredPictures$PacketOrder$Area;)J -/
def q_X76_y (a0 : Nat) (r1 : Nat) (G : Gt) (D : Dt) : Option Int :=
  bnd (q_X74_row (z_P G 7602 a0) (d_I D 7604 a0) G D) fun v3 =>
  gd (in64 (v3 * (p2l (d_I D 7404 (z_P G 7602 a0))))) <|
  bnd (q_X76_scale a0 G D) fun v5 =>
  gd (in64 ((v3 * (p2l (d_I D 7404 (z_P G 7602 a0)))) * v5)) <|
  gd (in64 (((v3 * (p2l (d_I D 7404 (z_P G 7602 a0)))) * v5) * (d_I D 7201 (z_P G 7601 a0)))) <|
  some (max (d_I D 2401 r1) (((v3 * (p2l (d_I D 7404 (z_P G 7602 a0)))) * v5) * (d_I D 7201 (z_P G 7601 a0))))
/-- LayeredPictures$PacketOrder$Level.column(I)I -/
def q_X74_column (a0 : Nat) (x1 : Int) (G : Gt) (D : Dt) : Option Int :=
  gd (¬ (d_I D 7405 a0) = 0) <|
  gd (in32 (((d_I D 2400 (z_P G 7401 a0)) / (p2 (d_I D 7403 a0))) + (Int.tmod x1 (d_I D 7405 a0)))) <|
  some (((d_I D 2400 (z_P G 7401 a0)) / (p2 (d_I D 7403 a0))) + (Int.tmod x1 (d_I D 7405 a0)))
/-- LayeredPictures$PacketOrder$Stream.x(LLayeredPictures$PacketOrder$Area;)J -/
def q_X76_x (a0 : Nat) (r1 : Nat) (G : Gt) (D : Dt) : Option Int :=
  bnd (q_X74_column (z_P G 7602 a0) (d_I D 7604 a0) G D) fun v3 =>
  gd (in64 (v3 * (p2l (d_I D 7403 (z_P G 7602 a0))))) <|
  bnd (q_X76_scale a0 G D) fun v5 =>
  gd (in64 ((v3 * (p2l (d_I D 7403 (z_P G 7602 a0)))) * v5)) <|
  gd (in64 (((v3 * (p2l (d_I D 7403 (z_P G 7602 a0)))) * v5) * (d_I D 7200 (z_P G 7601 a0)))) <|
  some (max (d_I D 2400 r1) (((v3 * (p2l (d_I D 7403 (z_P G 7602 a0)))) * v5) * (d_I D 7200 (z_P G 7601 a0))))
/-- LayeredPictures$PacketOrder$Merging.before(LLayeredPictures$PacketOrder$Stream;LLayeredPictures$PacketOrder$Stream;)Z -/
def q_X28_before (r1 : Nat) (r2 : Nat) (G : Gt) (D : Dt) : Option Int :=
  bnd (d_R D 2600 (s_ G 28)) fun b1 =>
  bnd (q_X76_y r1 (z_P G 2300 (s_ G 23)) G D) fun v3 =>
  bnd (d_R D 2600 (s_ G 28)) fun b4 =>
  bnd (q_X76_y r2 (z_P G 2300 (s_ G 23)) G D) fun v6 =>
  gd (in64 (v3 - v6)) <|
  lett (v3 - v6) fun v7 =>
  if v7 = (0 : Int) then
    bnd (d_R D 2600 (s_ G 28)) fun b8 =>
    bnd (q_X76_x r1 (z_P G 2300 (s_ G 23)) G D) fun v9 =>
    bnd (d_R D 2600 (s_ G 28)) fun b10 =>
    bnd (q_X76_x r2 (z_P G 2300 (s_ G 23)) G D) fun v11 =>
    if v11 ≤ v9 then
      some (0 : Int)
    else
    some (1 : Int)
  else
  if (0 : Int) ≤ v7 then
    some (0 : Int)
  else
  some (1 : Int)
/-- LayeredPictures$PacketOrder$Merging.first()LLayeredPictures$PacketOrder$Stream; -/
def q_X28_first_87 (N : Nat) (k4 : Option Nat → Int → Gt → Dt → Option (Option Nat)) (k17 : Option Nat → Int → Int → Gt → Dt → Option (Option Nat)) (x2 : Int) (x3 : Int) (a4 : Nat) (G : Gt) (D : Dt) : Option (Option Nat) :=
  gd (in32 (x3 + (1 : Int))) <|
  lett (x3 + (1 : Int)) fun v1 =>
  k17 (some a4) x2 v1 G D
def q_X28_first_17 (N : Nat) (k4 : Option Nat → Int → Gt → Dt → Option (Option Nat)) : Nat → Option Nat → Int → Int → Gt → Dt → Option (Option Nat)
  | 0, _, _, _, _, _ => none
  | n + 1, r1, x2, x3, G, D =>
    bnd (d_R D 2600 (s_ G 28)) fun b1 =>
    bnd (l_Q G 16 2301 (s_ G 23) x2) fun w3 =>
    bnd w3 fun b4 =>
    if (d_I D 7302 b4) < x3 then
      gd (in32 (x2 + (1 : Int))) <|
      lett (x2 + (1 : Int)) fun v5 =>
      k4 r1 v5 G D
    else
    bnd (d_R D 2600 (s_ G 28)) fun b6 =>
    bnd (q_X23_of x2 x3 G D) fun w7 =>
    bnd (d_R D 2601 (s_ G 28)) fun b8 =>
    bnd w7 fun b9 =>
    lett (q_X22_takes b8 b9 G D) fun v10 =>
    if v10 = (0 : Int) then
      gd (in32 (x3 + (1 : Int))) <|
      lett (x3 + (1 : Int)) fun v11 =>
      q_X28_first_17 N k4 n r1 x2 v11 G D
    else
    bnd w7 fun b12 =>
    bnd (q_X28_isIn b12 G D) fun v13 =>
    if v13 = (0 : Int) then
      gd (in32 (x3 + (1 : Int))) <|
      lett (x3 + (1 : Int)) fun v14 =>
      q_X28_first_17 N k4 n r1 x2 v14 G D
    else
    bnd w7 fun b15 =>
    bnd (q_X76_isDone b15 G D) fun v16 =>
    if v16 = (0 : Int) then
      if r1 = none then
        q_X28_first_87 N k4 (q_X28_first_17 N k4 n) x2 x3 b15 G D
      else
      bnd r1 fun b17 =>
      bnd (q_X28_before b15 b17 G D) fun v18 =>
      if v18 = (0 : Int) then
        gd (in32 (x3 + (1 : Int))) <|
        lett (x3 + (1 : Int)) fun v19 =>
        q_X28_first_17 N k4 n r1 x2 v19 G D
      else
      q_X28_first_87 N k4 (q_X28_first_17 N k4 n) x2 x3 b15 G D
    else
    gd (in32 (x3 + (1 : Int))) <|
    lett (x3 + (1 : Int)) fun v20 =>
    q_X28_first_17 N k4 n r1 x2 v20 G D
def q_X28_first_4 (N : Nat) : Nat → Option Nat → Int → Gt → Dt → Option (Option Nat)
  | 0, _, _, _, _ => none
  | n + 1, r1, x2, G, D =>
    bnd (d_R D 2600 (s_ G 28)) fun b1 =>
    if (d_I D 2303 (s_ G 23)) ≤ x2 then
      some r1
    else
    q_X28_first_17 N (q_X28_first_4 N n) N r1 x2 (0 : Int) G D
def q_X28_first (N : Nat) (G : Gt) (D : Dt) : Option (Option Nat) :=
  q_X28_first_4 N N none (0 : Int) G D
/-- LayeredPictures$PacketOrder$Merging.next()Z -/
def q_X28_next_40 (N : Nat) (k0 : Gt → Dt → Option (Int × Dt)) (G : Gt) (D : Dt) : Option (Int × Dt) :=
  bnd (q_X28_first N G D) fun w1 =>
  lett (u_R D 2804 (s_ G 28) w1) fun d2 =>
  lett (u_I d2 2603 (s_ G 28) (0 : Int)) fun d3 =>
  if (d_R d2 2804 (s_ G 28)) = none then
    gd (in32 ((d_I D 2805 (s_ G 28)) + (1 : Int))) <|
    lett ((d_I D 2805 (s_ G 28)) + (1 : Int)) fun v5 =>
    lett (u_I d3 2805 (s_ G 28) v5) fun d4 =>
    k0 G d4
  else
  k0 G d3
def q_X28_next_0 (N : Nat) : Nat → Gt → Dt → Option (Int × Dt)
  | 0, _, _ => none
  | n + 1, G, D =>
    if (d_I D 2806 (s_ G 28)) ≤ (d_I D 2805 (s_ G 28)) then
      some ((0 : Int), D)
    else
    bnd2 (q_X28_layers N G D) fun v3 d2 =>
    if v3 = (0 : Int) then
      if (d_R D 2804 (s_ G 28)) = none then
        q_X28_next_40 N (q_X28_next_0 N n) G d2
      else
      lett (d_R D 2804 (s_ G 28)) fun v4 =>
      bnd v4 fun b5 =>
      gd (in32 ((d_I D 7604 b5) + (1 : Int))) <|
      lett ((d_I D 7604 b5) + (1 : Int)) fun v7 =>
      lett (u_I d2 7604 b5 v7) fun d6 =>
      q_X28_next_40 N (q_X28_next_0 N n) G d6
    else
    some ((1 : Int), d2)
def q_X28_next (N : Nat) (G : Gt) (D : Dt) : Option (Int × Dt) :=
  q_X28_next_0 N N G D
/-- LayeredPictures$PacketOrder$Tile.rewind()V -/
def q_X23_rewind_12 (N : Nat) (k2 : Int → Gt → Dt → Option Dt) : Nat → Int → Int → Gt → Dt → Option Dt
  | 0, _, _, _, _ => none
  | n + 1, x1, x2, G, D =>
    bnd (l_Q G 16 2301 (s_ G 23) x1) fun w2 =>
    bnd w2 fun b3 =>
    if (d_I D 7302 b3) < x2 then
      gd (in32 (x1 + (1 : Int))) <|
      lett (x1 + (1 : Int)) fun v4 =>
      k2 v4 G D
    else
    bnd (q_X23_of x1 x2 G D) fun w5 =>
    bnd w5 fun b6 =>
    lett (u_I D 7604 b6 (0 : Int)) fun d7 =>
    gd (in32 (x2 + (1 : Int))) <|
    lett (x2 + (1 : Int)) fun v8 =>
    q_X23_rewind_12 N k2 n x1 v8 G d7
def q_X23_rewind_2 (N : Nat) : Nat → Int → Gt → Dt → Option Dt
  | 0, _, _, _ => none
  | n + 1, x1, G, D =>
    if (d_I D 2303 (s_ G 23)) ≤ x1 then
      some D
    else
    q_X23_rewind_12 N (q_X23_rewind_2 N n) N x1 (0 : Int) G D
def q_X23_rewind (N : Nat) (G : Gt) (D : Dt) : Option Dt :=
  q_X23_rewind_2 N N (0 : Int) G D
/-- LayeredPictures$PacketOrder$Walk.begin(LLayeredPictures$PacketOrder$Tile;LLayeredPictures$PacketOrder$Change;)V -/
def q_X26_begin (N : Nat) (a0 : Nat) (r2 : Nat) (G : Gt) (D : Dt) : Option Dt :=
  lett (u_R D 2600 a0 (some (s_ G 23))) fun d1 =>
  lett (u_R d1 2601 a0 (some r2)) fun d2 =>
  bnd (q_X23_rewind N G d2) fun d5 =>
  lett (u_I d5 2603 a0 (0 : Int)) fun d6 =>
  some d6
/-- LayeredPictures$PacketOrder$Merging.begin(LLayeredPictures$PacketOrder$Tile;LLayeredPictures$PacketOrder$Change;)V -/
def q_X28_begin_78 (N : Nat) (ts0 : Int) (G : Gt) (D : Dt) : Option Dt :=
  lett (u_I D 2806 (s_ G 28) ts0) fun d1 =>
  some d1
def q_X28_begin_43 (N : Nat) (a2 : Nat) (ts0 : Int) (G : Gt) (D : Dt) : Option Dt :=
  lett (u_I D 2805 (s_ G 28) ts0) fun d1 =>
  q_X28_begin_78 N (if (d_I D 2205 a2) = (2 : Int) then (d_I D 2201 a2) else (if (d_I D 2205 a2) = (4 : Int) then (d_I D 2203 a2) else (1 : Int))) G d1
def q_X28_begin (N : Nat) (r2 : Nat) (G : Gt) (D : Dt) : Option Dt :=
  bnd (q_X26_begin N (s_ G 28) r2 G D) fun d2 =>
  lett (u_R d2 2804 (s_ G 28) none) fun d3 =>
  q_X28_begin_43 N r2 (if (d_I D 2205 r2) = (2 : Int) then (d_I D 2200 r2) else (if (d_I D 2205 r2) = (4 : Int) then (d_I D 2202 r2) else (0 : Int))) G d3
/-- LayeredPictures$PacketOrder$Counting.begin(LLayeredPictures$PacketOrder$Tile;LLayeredPictures$PacketOrder$Change;)V -/
def q_X27_begin (N : Nat) (r2 : Nat) (G : Gt) (D : Dt) : Option Dt :=
  bnd (q_X26_begin N (s_ G 27) r2 G D) fun d2 =>
  lett (d_I D 2200 r2) fun v5 =>
  lett (u_I d2 2704 (s_ G 27) v5) fun d4 =>
  lett (d_I D 2202 r2) fun v7 =>
  lett (u_I d4 2705 (s_ G 27) v7) fun d6 =>
  lett (u_I d6 2706 (s_ G 27) (0 : Int)) fun d8 =>
  some d8
def qv_PacketOrder_Walk_begin (N : Nat) (b : Nat) (x2 : Nat) (G : Gt) (D : Dt) : Option Dt :=
  if z_K G b = 28 then (q_X27_begin N x2 G D) else
  if z_K G b = 29 then (q_X28_begin N x2 G D) else
  none
/-- LayeredPictures$PacketOrder.turn()Z -/
def q_X21_turn_132 (N : Nat) (r2 : Nat) (G : Gt) (D : Dt) : Option (Int × Dt) :=
  bnd (d_R D 2113 (s_ G 21)) fun b1 =>
  bnd (qv_PacketOrder_Walk_begin N b1 r2 G D) fun d3 =>
  some ((1 : Int), d3)
def q_X21_turn_82 (N : Nat) (a2 : Nat) (us0 : Nat) (G : Gt) (D : Dt) : Option (Int × Dt) :=
  lett (u_R D 2113 (s_ G 21) (some us0)) fun d1 =>
  if (d_I D 2204 a2) ≤ (d_I D 2102 (s_ G 21)) then
    q_X21_turn_132 N a2 G d1
  else
  lett (q_X22_set (z_P G 2104 (s_ G 21)) (d_I D 2200 a2) (d_I D 2201 a2) (d_I D 2202 a2) (d_I D 2203 a2) (d_I D 2102 (s_ G 21)) (d_I D 2205 a2) G d1) fun d4 =>
  q_X21_turn_132 N (z_P G 2104 (s_ G 21)) G d4
def q_X21_turn_61 (N : Nat) (us0 : Option Nat) (G : Gt) (D : Dt) : Option (Int × Dt) :=
  bnd us0 fun b1 =>
  if (2 : Int) ≤ (d_I D 2205 b1) then
    q_X21_turn_82 N b1 (s_ G 28) G D
  else
  q_X21_turn_82 N b1 (s_ G 27) G D
def q_X21_turn_15 (N : Nat) (ts0 : Int) (G : Gt) (D : Dt) : Option (Int × Dt) :=
  gd (in32 ((d_I D 2112 (s_ G 21)) + (1 : Int))) <|
  if ((d_I D 2112 (s_ G 21)) + (1 : Int)) < ts0 then
    lett ((d_I D 2112 (s_ G 21)) + (1 : Int)) fun v2 =>
    lett (u_I D 2112 (s_ G 21) v2) fun d1 =>
    if (d_I D 2106 (s_ G 21)) = (0 : Int) then
      q_X21_turn_61 N (some (z_P G 2104 (s_ G 21))) G d1
    else
    bnd (l_Q G 32 2105 (s_ G 21) v2) fun w4 =>
    q_X21_turn_61 N w4 G d1
  else
  some ((0 : Int), D)
def q_X21_turn (N : Nat) (G : Gt) (D : Dt) : Option (Int × Dt) :=
  q_X21_turn_15 N (if (d_I D 2106 (s_ G 21)) = (0 : Int) then (1 : Int) else (d_I D 2106 (s_ G 21))) G D
def qv_PacketOrder_Walk_next (N : Nat) (b : Nat) (G : Gt) (D : Dt) : Option (Int × Dt) :=
  if z_K G b = 28 then (q_X27_next N G D) else
  if z_K G b = 29 then (q_X28_next N G D) else
  none
/-- LayeredPictures$PacketOrder.goOn()Z -/
def q_X21_goOn_17 (N : Nat) (k0 : Gt → Dt → Option (Int × Dt)) (G : Gt) (D : Dt) : Option (Int × Dt) :=
  bnd2 (q_X21_turn N G D) fun v3 d2 =>
  if v3 = (0 : Int) then
    some ((0 : Int), d2)
  else
  k0 G d2
def q_X21_goOn_0 (N : Nat) : Nat → Gt → Dt → Option (Int × Dt)
  | 0, _, _ => none
  | n + 1, G, D =>
    if (d_R D 2113 (s_ G 21)) = none then
      q_X21_goOn_17 N (q_X21_goOn_0 N n) G D
    else
    bnd (d_R D 2113 (s_ G 21)) fun b1 =>
    bnd2 (qv_PacketOrder_Walk_next N b1 G D) fun v4 d3 =>
    if v4 = (0 : Int) then
      q_X21_goOn_17 N (q_X21_goOn_0 N n) G d3
    else
    lett (d_I D 2112 (s_ G 21)) fun v7 =>
    lett (u_I d3 2502 (s_ G 25) v7) fun d6 =>
    some ((1 : Int), d6)
def q_X21_goOn (N : Nat) (G : Gt) (D : Dt) : Option (Int × Dt) :=
  q_X21_goOn_0 N N G D
/-- LayeredPictures$PacketOrder.skip(I)I -/
def q_X21_skip_21 (N : Nat) : Nat → Int → Int → Gt → Dt → Ct → Option ((Int ⊕ Nat) × (Dt × Ct))
  | 0, _, _, _, _, _ => none
  | n + 1, x1, x2, G, D, c =>
    if x1 ≤ x2 then
      some (.inl x2, (D, c))
    else
    bnd2 (q_X21_goOn N G D) fun v3 d2 =>
    if v3 = (0 : Int) then
      some (.inl x2, (d2, c))
    else
    gd (in32 (x2 + (1 : Int))) <|
    lett (x2 + (1 : Int)) fun v4 =>
    q_X21_skip_21 N n x1 v4 G d2 c
def q_X21_skip_9 (N : Nat) (x1 : Int) (ts0 : Int) (G : Gt) (D : Dt) (c : Ct) : Option ((Int ⊕ Nat) × (Dt × Ct)) :=
  tht (q_X21_need ts0 G D c) fun _ p2 =>
  tht (q_X21_must (d_I D 2111 (s_ G 21)) G p2.1 p2.2) fun _ p4 =>
  q_X21_skip_21 N N x1 (0 : Int) G p4.1 p4.2
def q_X21_skip (N : Nat) (x1 : Int) (G : Gt) (D : Dt) (c : Ct) : Option ((Int ⊕ Nat) × (Dt × Ct)) :=
  q_X21_skip_9 N x1 (if x1 < (0 : Int) then (0 : Int) else (1 : Int)) G D c
/-- LayeredPictures$PacketOrder.next()Z -/
def q_X21_next (N : Nat) (G : Gt) (D : Dt) (c : Ct) : Option ((Int ⊕ Nat) × (Dt × Ct)) :=
  tht (q_X21_must (d_I D 2111 (s_ G 21)) G D c) fun _ p2 =>
  bnd2 (q_X21_goOn N G p2.1) fun v5 d4 =>
  gd (bzi v5) <|
  some (.inl v5, (d4, p2.2))
/-- LayeredPicturesModel$PacketOrderModel.clear()V -/
def q_X63_clear (G : Gt) (D : Dt) : Dt :=
  lett (u_I D 6300 (s_ G 63) (0 : Int)) fun d1 =>
  lett (u_I d1 6314 (s_ G 63) (0 : Int)) fun d2 =>
  lett (u_I d2 6316 (s_ G 63) (0 : Int)) fun d3 =>
  d3
/-- LayeredPicturesModel$PacketOrderModel.refuse(ZZ)Z -/
def q_X63_refuse_18 (ts0 : Int) (G : Gt) (D : Dt) : (Int × Dt) :=
  lett (u_I D 6300 (s_ G 63) ts0) fun d1 =>
  if ts0 ≤ (0 : Int) then
    ((0 : Int), d1)
  else
  ((1 : Int), d1)
def q_X63_refuse (x1 : Int) (x2 : Int) (G : Gt) (D : Dt) : (Int × Dt) :=
  q_X63_refuse_18 (if x1 = (0 : Int) then (if x2 = (0 : Int) then (0 : Int) else (2 : Int)) else (1 : Int)) G D
/-- LayeredPicturesModel$PacketOrderModel.tile(IIII)V -/
def q_X63_tile_52 (x1 : Int) (x2 : Int) (x3 : Int) (x4 : Int) (ts0 : Int) (G : Gt) (D : Dt) : Dt :=
  lett2 (q_X63_refuse ts0 (0 : Int) G D) fun v3 d2 =>
  if v3 = (0 : Int) then
    lett (u_I d2 6301 (s_ G 63) (1 : Int)) fun d4 =>
    lett (u_I d4 6302 (s_ G 63) x1) fun d5 =>
    lett (u_I d5 6303 (s_ G 63) x2) fun d6 =>
    lett (u_I d6 6304 (s_ G 63) x3) fun d7 =>
    lett (u_I d7 6305 (s_ G 63) x4) fun d8 =>
    lett (u_I d8 6316 (s_ G 63) (0 : Int)) fun d9 =>
    d9
  else
  d2
def q_X63_tile_39 (x1 : Int) (x2 : Int) (x3 : Int) (x4 : Int) (ts0 : Int) (G : Gt) (D : Dt) : Dt :=
  q_X63_tile_52 x1 x2 x3 x4 (if ts0 = (0 : Int) then (1 : Int) else (0 : Int)) G D
def q_X63_tile_38 (x1 : Int) (x2 : Int) (x3 : Int) (x4 : Int) (G : Gt) (D : Dt) : Dt :=
  q_X63_tile_39 x1 x2 x3 x4 (0 : Int) G D
def q_X63_tile (x1 : Int) (x2 : Int) (x3 : Int) (x4 : Int) (G : Gt) (D : Dt) : Dt :=
  if x1 < (0 : Int) then
    q_X63_tile_38 x1 x2 x3 x4 G D
  else
  if x2 < (0 : Int) then
    q_X63_tile_38 x1 x2 x3 x4 G D
  else
  if x3 ≤ x1 then
    q_X63_tile_38 x1 x2 x3 x4 G D
  else
  if x4 ≤ x2 then
    q_X63_tile_38 x1 x2 x3 x4 G D
  else
  if (32767 : Int) < x3 then
    q_X63_tile_38 x1 x2 x3 x4 G D
  else
  if (32767 : Int) < x4 then
    q_X63_tile_38 x1 x2 x3 x4 G D
  else
  q_X63_tile_39 x1 x2 x3 x4 (1 : Int) G D
/-- LayeredPicturesModel$PacketOrderModel.component(III)I -/
def q_X63_component_107 (N : Nat) : Nat → Int → Gt → Dt → Option (Int × Dt)
  | 0, _, _, _ => none
  | n + 1, x5, G, D =>
    if (33 : Int) ≤ x5 then
      lett (u_I D 6316 (s_ G 63) (0 : Int)) fun d1 =>
      gd (in32 ((d_I D 6306 (s_ G 63)) + (1 : Int))) <|
      lett ((d_I D 6306 (s_ G 63)) + (1 : Int)) fun v3 =>
      lett (u_I d1 6306 (s_ G 63) v3) fun d2 =>
      gd (in32 (v3 - (1 : Int))) <|
      some ((v3 - (1 : Int)), d2)
    else
    gd (in32 ((33 : Int) * (d_I D 6306 (s_ G 63)))) <|
    gd (in32 (((33 : Int) * (d_I D 6306 (s_ G 63))) + x5)) <|
    bnd (t_A D 528 6310 (s_ G 63) (((33 : Int) * (d_I D 6306 (s_ G 63))) + x5) (15 : Int)) fun d5 =>
    bnd (t_A d5 528 6311 (s_ G 63) (((33 : Int) * (d_I D 6306 (s_ G 63))) + x5) (15 : Int)) fun d7 =>
    gd (in32 (x5 + (1 : Int))) <|
    lett (x5 + (1 : Int)) fun v8 =>
    q_X63_component_107 N n v8 G d7
def q_X63_component_66 (N : Nat) (x1 : Int) (x2 : Int) (x3 : Int) (ts0 : Int) (ts1 : Int) (G : Gt) (D : Dt) : Option (Int × Dt) :=
  lett2 (q_X63_refuse ts1 ts0 G D) fun v3 d2 =>
  if v3 = (0 : Int) then
    bnd (t_A d2 16 6307 (s_ G 63) (d_I D 6306 (s_ G 63)) x1) fun d5 =>
    bnd (t_A d5 16 6308 (s_ G 63) (d_I D 6306 (s_ G 63)) x2) fun d7 =>
    bnd (t_A d7 16 6309 (s_ G 63) (d_I D 6306 (s_ G 63)) x3) fun d9 =>
    q_X63_component_107 N N (0 : Int) G d9
  else
  some ((0 : Int), d2)
def q_X63_component_52 (N : Nat) (x1 : Int) (x2 : Int) (x3 : Int) (ts0 : Int) (G : Gt) (D : Dt) : Option (Int × Dt) :=
  q_X63_component_66 N x1 x2 x3 (if (d_I D 6306 (s_ G 63)) = (16 : Int) then (1 : Int) else (0 : Int)) ts0 G D
def q_X63_component_39 (N : Nat) (x1 : Int) (x2 : Int) (x3 : Int) (ts0 : Int) (G : Gt) (D : Dt) : Option (Int × Dt) :=
  q_X63_component_52 N x1 x2 x3 (if ts0 = (0 : Int) then (1 : Int) else (0 : Int)) G D
def q_X63_component_38 (N : Nat) (x1 : Int) (x2 : Int) (x3 : Int) (G : Gt) (D : Dt) : Option (Int × Dt) :=
  q_X63_component_39 N x1 x2 x3 (0 : Int) G D
def q_X63_component (N : Nat) (x1 : Int) (x2 : Int) (x3 : Int) (G : Gt) (D : Dt) : Option (Int × Dt) :=
  if x1 < (1 : Int) then
    q_X63_component_38 N x1 x2 x3 G D
  else
  if (255 : Int) < x1 then
    q_X63_component_38 N x1 x2 x3 G D
  else
  if x2 < (1 : Int) then
    q_X63_component_38 N x1 x2 x3 G D
  else
  if (255 : Int) < x2 then
    q_X63_component_38 N x1 x2 x3 G D
  else
  if x3 < (0 : Int) then
    q_X63_component_38 N x1 x2 x3 G D
  else
  if (32 : Int) < x3 then
    q_X63_component_38 N x1 x2 x3 G D
  else
  q_X63_component_39 N x1 x2 x3 (1 : Int) G D
/-- LayeredPicturesModel$PacketOrderModel.isLevel(II)Z -/
def q_X63_isLevel_36 (ts0 : Int) (us1 : Nat) (ts2 : Int) (G : Gt) (D : Dt) : Option Int :=
  bnd (l_A D 16 6309 us1 ts0) fun v2 =>
  if v2 < ts2 then
    some (0 : Int)
  else
  some (1 : Int)
def q_X63_isLevel_35 (us0 : Nat) (ts1 : Int) (G : Gt) (D : Dt) : Option Int :=
  q_X63_isLevel_36 (0 : Int) us0 ts1 G D
def q_X63_isLevel (x1 : Int) (x2 : Int) (G : Gt) (D : Dt) : Option Int :=
  if x1 < (0 : Int) then
    some (0 : Int)
  else
  if (d_I D 6306 (s_ G 63)) ≤ x1 then
    some (0 : Int)
  else
  if x2 < (0 : Int) then
    some (0 : Int)
  else
  if x1 < (0 : Int) then
    q_X63_isLevel_35 (s_ G 63) x2 G D
  else
  if (16 : Int) ≤ x1 then
    q_X63_isLevel_35 (s_ G 63) x2 G D
  else
  q_X63_isLevel_36 x1 (s_ G 63) x2 G D
/-- LayeredPicturesModel$PacketOrderModel.precincts(IIII)V -/
def q_X63_precincts_67 (x1 : Int) (x2 : Int) (x3 : Int) (x4 : Int) (ts0 : Int) (ts1 : Int) (G : Gt) (D : Dt) : Option Dt :=
  lett2 (q_X63_refuse ts1 ts0 G D) fun v3 d2 =>
  if v3 = (0 : Int) then
    gd (in32 ((33 : Int) * x1)) <|
    gd (in32 (((33 : Int) * x1) + x2)) <|
    bnd (t_A d2 528 6310 (s_ G 63) (((33 : Int) * x1) + x2) x3) fun d5 =>
    bnd (t_A d5 528 6311 (s_ G 63) (((33 : Int) * x1) + x2) x4) fun d7 =>
    lett (u_I d7 6316 (s_ G 63) (0 : Int)) fun d8 =>
    some d8
  else
  some d2
def q_X63_precincts_57 (x1 : Int) (x2 : Int) (x3 : Int) (x4 : Int) (x5 : Int) (ts0 : Int) (G : Gt) (D : Dt) : Option Dt :=
  q_X63_precincts_67 x1 x2 x3 x4 (if x5 = (0 : Int) then (1 : Int) else (0 : Int)) ts0 G D
def q_X63_precincts_40 (x1 : Int) (x2 : Int) (x3 : Int) (x4 : Int) (ts0 : Int) (G : Gt) (D : Dt) : Option Dt :=
  bnd (q_X63_isLevel x1 x2 G D) fun v1 =>
  q_X63_precincts_57 x1 x2 x3 x4 ts0 (if v1 = (0 : Int) then (1 : Int) else (0 : Int)) G D
def q_X63_precincts_35 (x1 : Int) (x2 : Int) (x3 : Int) (x4 : Int) (G : Gt) (D : Dt) : Option Dt :=
  q_X63_precincts_40 x1 x2 x3 x4 (1 : Int) G D
def q_X63_precincts_39 (x1 : Int) (x2 : Int) (x3 : Int) (x4 : Int) (G : Gt) (D : Dt) : Option Dt :=
  q_X63_precincts_40 x1 x2 x3 x4 (0 : Int) G D
def q_X63_precincts (x1 : Int) (x2 : Int) (x3 : Int) (x4 : Int) (G : Gt) (D : Dt) : Option Dt :=
  if x3 < (0 : Int) then
    q_X63_precincts_39 x1 x2 x3 x4 G D
  else
  if (15 : Int) < x3 then
    q_X63_precincts_39 x1 x2 x3 x4 G D
  else
  if x4 < (0 : Int) then
    q_X63_precincts_39 x1 x2 x3 x4 G D
  else
  if (15 : Int) < x4 then
    q_X63_precincts_39 x1 x2 x3 x4 G D
  else
  if x2 = (0 : Int) then
    q_X63_precincts_35 x1 x2 x3 x4 G D
  else
  if x3 ≤ (0 : Int) then
    q_X63_precincts_39 x1 x2 x3 x4 G D
  else
  if x4 ≤ (0 : Int) then
    q_X63_precincts_39 x1 x2 x3 x4 G D
  else
  q_X63_precincts_35 x1 x2 x3 x4 G D
/-- LayeredPicturesModel$PacketOrderModel.layers(II)V -/
def q_X63_layers_27 (x1 : Int) (x2 : Int) (ts0 : Int) (G : Gt) (D : Dt) : Dt :=
  lett2 (q_X63_refuse ts0 (0 : Int) G D) fun v3 d2 =>
  if v3 = (0 : Int) then
    lett (u_I d2 6312 (s_ G 63) x1) fun d4 =>
    lett (u_I d4 6313 (s_ G 63) x2) fun d5 =>
    lett (u_I d5 6316 (s_ G 63) (0 : Int)) fun d6 =>
    d6
  else
  d2
def q_X63_layers_22 (x1 : Int) (x2 : Int) (G : Gt) (D : Dt) : Dt :=
  q_X63_layers_27 x1 x2 (1 : Int) G D
def q_X63_layers (x1 : Int) (x2 : Int) (G : Gt) (D : Dt) : Dt :=
  if x1 < (1 : Int) then
    q_X63_layers_22 x1 x2 G D
  else
  if (255 : Int) < x1 then
    q_X63_layers_22 x1 x2 G D
  else
  if x2 < (0 : Int) then
    q_X63_layers_22 x1 x2 G D
  else
  if x2 ≤ (4 : Int) then
    q_X63_layers_27 x1 x2 (0 : Int) G D
  else
  q_X63_layers_22 x1 x2 G D
/-- LayeredPicturesModel$PacketOrderModel.change(IIIIII)I -/
def q_X63_change_101 (x1 : Int) (x2 : Int) (x3 : Int) (x4 : Int) (x5 : Int) (x6 : Int) (ts0 : Int) (ts1 : Int) (G : Gt) (D : Dt) : Option (Int × Dt) :=
  lett2 (q_X63_refuse ts1 ts0 G D) fun v3 d2 =>
  if v3 = (0 : Int) then
    gd (in32 ((6 : Int) * (d_I D 6314 (s_ G 63)))) <|
    bnd (t_A d2 192 6315 (s_ G 63) ((6 : Int) * (d_I D 6314 (s_ G 63))) x1) fun d5 =>
    gd (in32 (((6 : Int) * (d_I D 6314 (s_ G 63))) + (1 : Int))) <|
    bnd (t_A d5 192 6315 (s_ G 63) (((6 : Int) * (d_I D 6314 (s_ G 63))) + (1 : Int)) x2) fun d7 =>
    gd (in32 (((6 : Int) * (d_I D 6314 (s_ G 63))) + (2 : Int))) <|
    bnd (t_A d7 192 6315 (s_ G 63) (((6 : Int) * (d_I D 6314 (s_ G 63))) + (2 : Int)) x3) fun d9 =>
    gd (in32 (((6 : Int) * (d_I D 6314 (s_ G 63))) + (3 : Int))) <|
    bnd (t_A d9 192 6315 (s_ G 63) (((6 : Int) * (d_I D 6314 (s_ G 63))) + (3 : Int)) x4) fun d11 =>
    gd (in32 (((6 : Int) * (d_I D 6314 (s_ G 63))) + (4 : Int))) <|
    bnd (t_A d11 192 6315 (s_ G 63) (((6 : Int) * (d_I D 6314 (s_ G 63))) + (4 : Int)) x5) fun d13 =>
    gd (in32 (((6 : Int) * (d_I D 6314 (s_ G 63))) + (5 : Int))) <|
    bnd (t_A d13 192 6315 (s_ G 63) (((6 : Int) * (d_I D 6314 (s_ G 63))) + (5 : Int)) x6) fun d15 =>
    lett (u_I d15 6316 (s_ G 63) (0 : Int)) fun d16 =>
    gd (in32 ((d_I D 6314 (s_ G 63)) + (1 : Int))) <|
    lett ((d_I D 6314 (s_ G 63)) + (1 : Int)) fun v18 =>
    lett (u_I d16 6314 (s_ G 63) v18) fun d17 =>
    some (v18, d17)
  else
  some ((0 : Int), d2)
def q_X63_change_87 (x1 : Int) (x2 : Int) (x3 : Int) (x4 : Int) (x5 : Int) (x6 : Int) (ts0 : Int) (G : Gt) (D : Dt) : Option (Int × Dt) :=
  q_X63_change_101 x1 x2 x3 x4 x5 x6 (if (d_I D 6314 (s_ G 63)) = (32 : Int) then (1 : Int) else (0 : Int)) ts0 G D
def q_X63_change_74 (x1 : Int) (x2 : Int) (x3 : Int) (x4 : Int) (x5 : Int) (x6 : Int) (ts0 : Int) (G : Gt) (D : Dt) : Option (Int × Dt) :=
  q_X63_change_87 x1 x2 x3 x4 x5 x6 (if ts0 = (0 : Int) then (1 : Int) else (0 : Int)) G D
def q_X63_change_73 (x1 : Int) (x2 : Int) (x3 : Int) (x4 : Int) (x5 : Int) (x6 : Int) (G : Gt) (D : Dt) : Option (Int × Dt) :=
  q_X63_change_74 x1 x2 x3 x4 x5 x6 (0 : Int) G D
def q_X63_change (x1 : Int) (x2 : Int) (x3 : Int) (x4 : Int) (x5 : Int) (x6 : Int) (G : Gt) (D : Dt) : Option (Int × Dt) :=
  if x1 < (0 : Int) then
    q_X63_change_73 x1 x2 x3 x4 x5 x6 G D
  else
  if (32 : Int) < x1 then
    q_X63_change_73 x1 x2 x3 x4 x5 x6 G D
  else
  if x2 ≤ x1 then
    q_X63_change_73 x1 x2 x3 x4 x5 x6 G D
  else
  if (33 : Int) < x2 then
    q_X63_change_73 x1 x2 x3 x4 x5 x6 G D
  else
  if x3 < (0 : Int) then
    q_X63_change_73 x1 x2 x3 x4 x5 x6 G D
  else
  if (15 : Int) < x3 then
    q_X63_change_73 x1 x2 x3 x4 x5 x6 G D
  else
  if x4 ≤ x3 then
    q_X63_change_73 x1 x2 x3 x4 x5 x6 G D
  else
  if (16 : Int) < x4 then
    q_X63_change_73 x1 x2 x3 x4 x5 x6 G D
  else
  if x5 < (1 : Int) then
    q_X63_change_73 x1 x2 x3 x4 x5 x6 G D
  else
  if (255 : Int) < x5 then
    q_X63_change_73 x1 x2 x3 x4 x5 x6 G D
  else
  if x6 < (0 : Int) then
    q_X63_change_73 x1 x2 x3 x4 x5 x6 G D
  else
  if (4 : Int) < x6 then
    q_X63_change_73 x1 x2 x3 x4 x5 x6 G D
  else
  q_X63_change_74 x1 x2 x3 x4 x5 x6 (1 : Int) G D
/-- LayeredPicturesModel$PacketOrderModel.up(II)I -/
def q_X63_up (x0 : Int) (x1 : Int) : Option Int :=
  gd (in32 (x0 + x1)) <|
  gd (in32 ((x0 + x1) - (1 : Int))) <|
  gd (¬ x1 = 0) <|
  gd (in32 (Int.tdiv ((x0 + x1) - (1 : Int)) x1)) <|
  some (Int.tdiv ((x0 + x1) - (1 : Int)) x1)
/-- LayeredPicturesModel$PacketOrderModel.findLevel(II)V -/
def q_X63_findLevel_70 (N : Nat) : Nat → Int → Int → Gt → Dt → Option Dt
  | 0, _, _, _, _ => none
  | n + 1, x1, x3, G, D =>
    bnd (l_A D 16 6309 (s_ G 63) x1) fun v2 =>
    if v2 ≤ x3 then
      some D
    else
    gd (in32 ((d_I D 6334 (s_ G 63)) + (1 : Int))) <|
    lett (((d_I D 6334 (s_ G 63)) + (1 : Int)) / (2 : Int)) fun v4 =>
    lett (u_I D 6334 (s_ G 63) v4) fun d3 =>
    gd (in32 ((d_I D 6335 (s_ G 63)) + (1 : Int))) <|
    lett (((d_I D 6335 (s_ G 63)) + (1 : Int)) / (2 : Int)) fun v6 =>
    lett (u_I d3 6335 (s_ G 63) v6) fun d5 =>
    gd (in32 ((d_I D 6336 (s_ G 63)) + (1 : Int))) <|
    lett (((d_I D 6336 (s_ G 63)) + (1 : Int)) / (2 : Int)) fun v8 =>
    lett (u_I d5 6336 (s_ G 63) v8) fun d7 =>
    gd (in32 ((d_I D 6337 (s_ G 63)) + (1 : Int))) <|
    lett (((d_I D 6337 (s_ G 63)) + (1 : Int)) / (2 : Int)) fun v10 =>
    lett (u_I d7 6337 (s_ G 63) v10) fun d9 =>
    gd (in32 (x3 + (1 : Int))) <|
    lett (x3 + (1 : Int)) fun v11 =>
    q_X63_findLevel_70 N n x1 v11 G d9
def q_X63_findLevel (N : Nat) (x1 : Int) (x2 : Int) (G : Gt) (D : Dt) : Option Dt :=
  bnd (l_A D 16 6307 (s_ G 63) x1) fun v2 =>
  bnd (q_X63_up (d_I D 6302 (s_ G 63)) v2) fun v3 =>
  lett (u_I D 6334 (s_ G 63) v3) fun d4 =>
  bnd (l_A D 16 6308 (s_ G 63) x1) fun v6 =>
  bnd (q_X63_up (d_I D 6303 (s_ G 63)) v6) fun v7 =>
  lett (u_I d4 6335 (s_ G 63) v7) fun d8 =>
  bnd (l_A D 16 6307 (s_ G 63) x1) fun v10 =>
  bnd (q_X63_up (d_I D 6304 (s_ G 63)) v10) fun v11 =>
  lett (u_I d8 6336 (s_ G 63) v11) fun d12 =>
  bnd (l_A D 16 6308 (s_ G 63) x1) fun v14 =>
  bnd (q_X63_up (d_I D 6305 (s_ G 63)) v14) fun v15 =>
  lett (u_I d12 6337 (s_ G 63) v15) fun d16 =>
  q_X63_findLevel_70 N N x1 x2 G d16
/-- LayeredPicturesModel$PacketOrderModel.columns(II)I -/
def q_X63_columns_27 (x1 : Int) (x2 : Int) (ts0 : Int) (G : Gt) (D : Dt) : Option Int :=
  if ts0 = (0 : Int) then
    gd (in32 ((d_I D 6336 (s_ G 63)) - (1 : Int))) <|
    gd (in32 ((33 : Int) * x1)) <|
    gd (in32 (((33 : Int) * x1) + x2)) <|
    bnd (l_A D 528 6310 (s_ G 63) (((33 : Int) * x1) + x2)) fun v2 =>
    bnd (l_A D 528 6310 (s_ G 63) (((33 : Int) * x1) + x2)) fun v4 =>
    gd (in32 ((((d_I D 6336 (s_ G 63)) - (1 : Int)) / (p2 v2)) - ((d_I D 6334 (s_ G 63)) / (p2 v4)))) <|
    gd (in32 (((((d_I D 6336 (s_ G 63)) - (1 : Int)) / (p2 v2)) - ((d_I D 6334 (s_ G 63)) / (p2 v4))) + (1 : Int))) <|
    some (((((d_I D 6336 (s_ G 63)) - (1 : Int)) / (p2 v2)) - ((d_I D 6334 (s_ G 63)) / (p2 v4))) + (1 : Int))
  else
  some (0 : Int)
def q_X63_columns_22 (x1 : Int) (x2 : Int) (G : Gt) (D : Dt) : Option Int :=
  q_X63_columns_27 x1 x2 (1 : Int) G D
def q_X63_columns (x1 : Int) (x2 : Int) (G : Gt) (D : Dt) : Option Int :=
  if (d_I D 6336 (s_ G 63)) ≤ (d_I D 6334 (s_ G 63)) then
    q_X63_columns_22 x1 x2 G D
  else
  if (d_I D 6335 (s_ G 63)) < (d_I D 6337 (s_ G 63)) then
    q_X63_columns_27 x1 x2 (0 : Int) G D
  else
  q_X63_columns_22 x1 x2 G D
/-- LayeredPicturesModel$PacketOrderModel.rows(II)I -/
def q_X63_rows_27 (x1 : Int) (x2 : Int) (ts0 : Int) (G : Gt) (D : Dt) : Option Int :=
  if ts0 = (0 : Int) then
    gd (in32 ((d_I D 6337 (s_ G 63)) - (1 : Int))) <|
    gd (in32 ((33 : Int) * x1)) <|
    gd (in32 (((33 : Int) * x1) + x2)) <|
    bnd (l_A D 528 6311 (s_ G 63) (((33 : Int) * x1) + x2)) fun v2 =>
    bnd (l_A D 528 6311 (s_ G 63) (((33 : Int) * x1) + x2)) fun v4 =>
    gd (in32 ((((d_I D 6337 (s_ G 63)) - (1 : Int)) / (p2 v2)) - ((d_I D 6335 (s_ G 63)) / (p2 v4)))) <|
    gd (in32 (((((d_I D 6337 (s_ G 63)) - (1 : Int)) / (p2 v2)) - ((d_I D 6335 (s_ G 63)) / (p2 v4))) + (1 : Int))) <|
    some (((((d_I D 6337 (s_ G 63)) - (1 : Int)) / (p2 v2)) - ((d_I D 6335 (s_ G 63)) / (p2 v4))) + (1 : Int))
  else
  some (0 : Int)
def q_X63_rows_22 (x1 : Int) (x2 : Int) (G : Gt) (D : Dt) : Option Int :=
  q_X63_rows_27 x1 x2 (1 : Int) G D
def q_X63_rows (x1 : Int) (x2 : Int) (G : Gt) (D : Dt) : Option Int :=
  if (d_I D 6336 (s_ G 63)) ≤ (d_I D 6334 (s_ G 63)) then
    q_X63_rows_22 x1 x2 G D
  else
  if (d_I D 6335 (s_ G 63)) < (d_I D 6337 (s_ G 63)) then
    q_X63_rows_27 x1 x2 (0 : Int) G D
  else
  q_X63_rows_22 x1 x2 G D
/-- LayeredPicturesModel$PacketOrderModel.count()J -/
def q_X63_count_15 (N : Nat) (k4 : Int → Int → Gt → Dt → Option (Int × Dt)) : Nat → Int → Int → Int → Gt → Dt → Option (Int × Dt)
  | 0, _, _, _, _, _ => none
  | n + 1, x1, x3, x4, G, D =>
    bnd (l_A D 16 6309 (s_ G 63) x3) fun v2 =>
    if v2 < x4 then
      gd (in32 (x3 + (1 : Int))) <|
      lett (x3 + (1 : Int)) fun v3 =>
      k4 x1 v3 G D
    else
    bnd (q_X63_findLevel N x3 x4 G D) fun d5 =>
    bnd (q_X63_columns x3 x4 G d5) fun v6 =>
    bnd (q_X63_rows x3 x4 G d5) fun v7 =>
    gd (in64 (v6 * v7)) <|
    gd (in64 (x1 + (v6 * v7))) <|
    lett (x1 + (v6 * v7)) fun v8 =>
    gd (in32 (x4 + (1 : Int))) <|
    lett (x4 + (1 : Int)) fun v9 =>
    q_X63_count_15 N k4 n v8 x3 v9 G d5
def q_X63_count_4 (N : Nat) : Nat → Int → Int → Gt → Dt → Option (Int × Dt)
  | 0, _, _, _, _ => none
  | n + 1, x1, x3, G, D =>
    if (d_I D 6306 (s_ G 63)) ≤ x3 then
      some (x1, D)
    else
    q_X63_count_15 N (q_X63_count_4 N n) N x1 x3 (0 : Int) G D
def q_X63_count (N : Nat) (G : Gt) (D : Dt) : Option (Int × Dt) :=
  q_X63_count_4 N N (0 : Int) (0 : Int) G D
/-- LayeredPicturesModel$PacketOrderModel.place(IIIII)J -/
def q_X63_place (x0 : Int) (x1 : Int) (x2 : Int) (x3 : Int) (x4 : Int) : Option Int :=
  gd (in32 (x1 + x2)) <|
  gd (in64 (x0 * (p2l (x1 + x2)))) <|
  gd (in64 ((x0 * (p2l (x1 + x2))) * x3)) <|
  lett ((x0 * (p2l (x1 + x2))) * x3) fun v1 =>
  if x4 ≤ v1 then
    some v1
  else
  some x4
/-- LayeredPicturesModel$PacketOrderModel.list(II)V -/
def q_X63_list_34 (N : Nat) : Nat → Int → Int → Int → Int → Int → Int → Gt → Dt → Option Dt
  | 0, _, _, _, _, _, _, _, _ => none
  | n + 1, x1, x2, x3, x4, x5, x6, G, D =>
    gd (in32 (x3 * x4)) <|
    if (x3 * x4) ≤ x6 then
      some D
    else
    gd (in32 ((33 : Int) * x1)) <|
    gd (in32 (((33 : Int) * x1) + x2)) <|
    bnd (l_A D 528 6310 (s_ G 63) (((33 : Int) * x1) + x2)) fun v2 =>
    gd (¬ x3 = 0) <|
    gd (in32 (((d_I D 6334 (s_ G 63)) / (p2 v2)) + (Int.tmod x6 x3))) <|
    lett (((d_I D 6334 (s_ G 63)) / (p2 v2)) + (Int.tmod x6 x3)) fun v3 =>
    bnd (l_A D 528 6311 (s_ G 63) (((33 : Int) * x1) + x2)) fun v5 =>
    gd (¬ x3 = 0) <|
    gd (in32 (Int.tdiv x6 x3)) <|
    gd (in32 (((d_I D 6335 (s_ G 63)) / (p2 v5)) + (Int.tdiv x6 x3))) <|
    lett (((d_I D 6335 (s_ G 63)) / (p2 v5)) + (Int.tdiv x6 x3)) fun v6 =>
    bnd (t_A D 4096 6318 (s_ G 63) (d_I D 6317 (s_ G 63)) x1) fun d8 =>
    bnd (t_A d8 4096 6319 (s_ G 63) (d_I D 6317 (s_ G 63)) x2) fun d10 =>
    bnd (t_A d10 4096 6320 (s_ G 63) (d_I D 6317 (s_ G 63)) x6) fun d12 =>
    bnd (l_A D 528 6310 (s_ G 63) (((33 : Int) * x1) + x2)) fun v14 =>
    bnd (l_A D 16 6307 (s_ G 63) x1) fun v16 =>
    bnd (q_X63_place v3 v14 x5 v16 (d_I D 6302 (s_ G 63))) fun v17 =>
    bnd (t_A d12 4096 6321 (s_ G 63) (d_I D 6317 (s_ G 63)) v17) fun d19 =>
    bnd (l_A D 528 6311 (s_ G 63) (((33 : Int) * x1) + x2)) fun v21 =>
    bnd (l_A D 16 6308 (s_ G 63) x1) fun v23 =>
    bnd (q_X63_place v6 v21 x5 v23 (d_I D 6303 (s_ G 63))) fun v24 =>
    bnd (t_A d19 4096 6322 (s_ G 63) (d_I D 6317 (s_ G 63)) v24) fun d26 =>
    bnd (t_A d26 4096 6323 (s_ G 63) (d_I D 6317 (s_ G 63)) (0 : Int)) fun d28 =>
    gd (in32 ((d_I D 6317 (s_ G 63)) + (1 : Int))) <|
    lett ((d_I D 6317 (s_ G 63)) + (1 : Int)) fun v30 =>
    lett (u_I d28 6317 (s_ G 63) v30) fun d29 =>
    gd (in32 (x6 + (1 : Int))) <|
    lett (x6 + (1 : Int)) fun v31 =>
    q_X63_list_34 N n x1 x2 x3 x4 x5 v31 G d29
def q_X63_list (N : Nat) (x1 : Int) (x2 : Int) (G : Gt) (D : Dt) : Option Dt :=
  bnd (q_X63_findLevel N x1 x2 G D) fun d2 =>
  bnd (q_X63_columns x1 x2 G d2) fun v3 =>
  bnd (q_X63_rows x1 x2 G d2) fun v4 =>
  bnd (l_A D 16 6309 (s_ G 63) x1) fun v6 =>
  gd (in32 (v6 - x2)) <|
  lett (v6 - x2) fun v7 =>
  q_X63_list_34 N N x1 x2 v3 v4 v7 (0 : Int) G d2
/-- LayeredPicturesModel$PacketOrderModel.ways()I -/
def q_X63_ways (G : Gt) (D : Dt) : Int :=
  if (d_I D 6314 (s_ G 63)) = (0 : Int) then
    (1 : Int)
  else
  (d_I D 6314 (s_ G 63))
/-- LayeredPicturesModel$PacketOrderModel.orderNow()I -/
def q_X63_orderNow (G : Gt) (D : Dt) : Option Int :=
  if (d_I D 6314 (s_ G 63)) = (0 : Int) then
    some (d_I D 6313 (s_ G 63))
  else
  gd (in32 ((6 : Int) * (d_I D 6325 (s_ G 63)))) <|
  gd (in32 (((6 : Int) * (d_I D 6325 (s_ G 63))) + (5 : Int))) <|
  bnd (l_A D 192 6315 (s_ G 63) (((6 : Int) * (d_I D 6325 (s_ G 63))) + (5 : Int))) fun v2 =>
  some v2
/-- LayeredPicturesModel$PacketOrderModel.sign(JJ)I -/
def q_X63_sign (x1 : Int) (x3 : Int) : Int :=
  if x3 ≤ x1 then
    if x1 ≤ x3 then
      (0 : Int)
    else
    (1 : Int)
  else
  (-1 : Int)
/-- LayeredPicturesModel$PacketOrderModel.byLevel(II)I -/
def q_X63_byLevel (x1 : Int) (x2 : Int) (G : Gt) (D : Dt) : Option Int :=
  bnd (l_A D 4096 6319 (s_ G 63) x1) fun v2 =>
  bnd (l_A D 4096 6319 (s_ G 63) x2) fun v4 =>
  lett (q_X63_sign v2 v4) fun v5 =>
  some v5
/-- LayeredPicturesModel$PacketOrderModel.byComponent(II)I -/
def q_X63_byComponent (x1 : Int) (x2 : Int) (G : Gt) (D : Dt) : Option Int :=
  bnd (l_A D 4096 6318 (s_ G 63) x1) fun v2 =>
  bnd (l_A D 4096 6318 (s_ G 63) x2) fun v4 =>
  lett (q_X63_sign v2 v4) fun v5 =>
  some v5
/-- LayeredPicturesModel$PacketOrderModel.then(II)I -/
def q_X63_then (x0 : Int) (x1 : Int) : Int :=
  if x0 = (0 : Int) then
    x1
  else
  x0
/-- LayeredPicturesModel$PacketOrderModel.byPlace(II)I -/
def q_X63_byPlace (x1 : Int) (x2 : Int) (G : Gt) (D : Dt) : Option Int :=
  bnd (l_A D 4096 6322 (s_ G 63) x1) fun v2 =>
  bnd (l_A D 4096 6322 (s_ G 63) x2) fun v4 =>
  lett (q_X63_sign v2 v4) fun v5 =>
  if v5 = (0 : Int) then
    bnd (l_A D 4096 6321 (s_ G 63) x1) fun v7 =>
    bnd (l_A D 4096 6321 (s_ G 63) x2) fun v9 =>
    lett (q_X63_sign v7 v9) fun v10 =>
    some v10
  else
  some v5
/-- LayeredPicturesModel$PacketOrderModel.compare(III)I -/
def q_X63_compare (x1 : Int) (x2 : Int) (x3 : Int) (G : Gt) (D : Dt) : Option Int :=
  bnd (l_A D 4096 6320 (s_ G 63) x1) fun v2 =>
  bnd (l_A D 4096 6320 (s_ G 63) x2) fun v4 =>
  lett (q_X63_sign v2 v4) fun v5 =>
  if x3 = (0 : Int) then
    bnd (q_X63_byLevel x1 x2 G D) fun v6 =>
    bnd (q_X63_byComponent x1 x2 G D) fun v7 =>
    lett (q_X63_then v6 v7) fun v8 =>
    lett (q_X63_then v8 v5) fun v9 =>
    some v9
  else
  if x3 = (1 : Int) then
    bnd (q_X63_byLevel x1 x2 G D) fun v10 =>
    bnd (q_X63_byComponent x1 x2 G D) fun v11 =>
    lett (q_X63_then v10 v11) fun v12 =>
    lett (q_X63_then v12 v5) fun v13 =>
    some v13
  else
  if x3 = (2 : Int) then
    bnd (q_X63_byLevel x1 x2 G D) fun v14 =>
    bnd (q_X63_byPlace x1 x2 G D) fun v15 =>
    lett (q_X63_then v14 v15) fun v16 =>
    bnd (q_X63_byComponent x1 x2 G D) fun v17 =>
    lett (q_X63_then v16 v17) fun v18 =>
    some v18
  else
  if x3 = (3 : Int) then
    bnd (q_X63_byPlace x1 x2 G D) fun v19 =>
    bnd (q_X63_byComponent x1 x2 G D) fun v20 =>
    lett (q_X63_then v19 v20) fun v21 =>
    bnd (q_X63_byLevel x1 x2 G D) fun v22 =>
    lett (q_X63_then v21 v22) fun v23 =>
    some v23
  else
  bnd (q_X63_byComponent x1 x2 G D) fun v24 =>
  bnd (q_X63_byPlace x1 x2 G D) fun v25 =>
  lett (q_X63_then v24 v25) fun v26 =>
  bnd (q_X63_byLevel x1 x2 G D) fun v27 =>
  lett (q_X63_then v26 v27) fun v28 =>
  some v28
/-- LayeredPicturesModel$PacketOrderModel.sort(I)V -/
def q_X63_sort_102 (N : Nat) (k27 : Int → Int → Gt → Dt → Option Dt) (k33 : Int → Int → Int → Gt → Dt → Option Dt) (x1 : Int) (x2 : Int) (x3 : Int) (x4 : Int) (x5 : Int) (G : Gt) (D : Dt) : Option Dt :=
  bnd (t_A D 4096 6324 (s_ G 63) x5 x4) fun d2 =>
  gd (in32 (x3 + (1 : Int))) <|
  lett (x3 + (1 : Int)) fun v3 =>
  k33 x1 x2 v3 G d2
def q_X63_sort_52 (N : Nat) (k27 : Int → Int → Gt → Dt → Option Dt) (k33 : Int → Int → Int → Gt → Dt → Option Dt) : Nat → Int → Int → Int → Int → Int → Gt → Dt → Option Dt
  | 0, _, _, _, _, _, _, _ => none
  | n + 1, x1, x2, x3, x4, x5, G, D =>
    if x5 < x2 then
      q_X63_sort_102 N k27 k33 x1 x2 x3 x4 x5 G D
    else
    gd (in32 (x5 - x2)) <|
    bnd (l_A D 4096 6324 (s_ G 63) (x5 - x2)) fun v2 =>
    bnd (q_X63_compare x4 v2 x1 G D) fun v3 =>
    if (0 : Int) ≤ v3 then
      q_X63_sort_102 N k27 k33 x1 x2 x3 x4 x5 G D
    else
    bnd (l_A D 4096 6324 (s_ G 63) (x5 - x2)) fun v5 =>
    bnd (t_A D 4096 6324 (s_ G 63) x5 v5) fun d6 =>
    lett (x5 - x2) fun v7 =>
    q_X63_sort_52 N k27 k33 n x1 x2 x3 x4 v7 G d6
def q_X63_sort_33 (N : Nat) (k27 : Int → Int → Gt → Dt → Option Dt) : Nat → Int → Int → Int → Gt → Dt → Option Dt
  | 0, _, _, _, _, _ => none
  | n + 1, x1, x2, x3, G, D =>
    if (d_I D 6317 (s_ G 63)) ≤ x3 then
      gd (in32 (x2 - (1 : Int))) <|
      lett (Int.tdiv (x2 - (1 : Int)) (3 : Int)) fun v1 =>
      k27 x1 v1 G D
    else
    bnd (l_A D 4096 6324 (s_ G 63) x3) fun v3 =>
    q_X63_sort_52 N k27 (q_X63_sort_33 N k27 n) N x1 x2 x3 v3 x3 G D
def q_X63_sort_27 (N : Nat) : Nat → Int → Int → Gt → Dt → Option Dt
  | 0, _, _, _, _ => none
  | n + 1, x1, x2, G, D =>
    if x2 ≤ (0 : Int) then
      some D
    else
    q_X63_sort_33 N (q_X63_sort_27 N n) N x1 x2 x2 G D
def q_X63_sort_2 (N : Nat) : Nat → Int → Int → Gt → Dt → Option Dt
  | 0, _, _, _, _ => none
  | n + 1, x1, x2, G, D =>
    if (d_I D 6317 (s_ G 63)) ≤ x2 then
      q_X63_sort_27 N N x1 (3280 : Int) G D
    else
    bnd (t_A D 4096 6324 (s_ G 63) x2 x2) fun d2 =>
    gd (in32 (x2 + (1 : Int))) <|
    lett (x2 + (1 : Int)) fun v3 =>
    q_X63_sort_2 N n x1 v3 G d2
def q_X63_sort (N : Nat) (x1 : Int) (G : Gt) (D : Dt) : Option Dt :=
  q_X63_sort_2 N N x1 (0 : Int) G D
/-- LayeredPicturesModel$PacketOrderModel.findGroup()V -/
def q_X63_findGroup_26 (N : Nat) : Nat → Int → Gt → Dt → Option Dt
  | 0, _, _, _ => none
  | n + 1, x1, G, D =>
    if x1 = (1 : Int) then
      if (d_I D 6317 (s_ G 63)) ≤ (d_I D 6327 (s_ G 63)) then
        some D
      else
      bnd (l_A D 4096 6324 (s_ G 63) (d_I D 6327 (s_ G 63))) fun v2 =>
      bnd (l_A D 4096 6319 (s_ G 63) v2) fun v4 =>
      bnd (l_A D 4096 6324 (s_ G 63) (d_I D 6328 (s_ G 63))) fun v6 =>
      bnd (l_A D 4096 6319 (s_ G 63) v6) fun v8 =>
      if v4 = v8 then
        gd (in32 ((d_I D 6327 (s_ G 63)) + (1 : Int))) <|
        lett ((d_I D 6327 (s_ G 63)) + (1 : Int)) fun v10 =>
        lett (u_I D 6327 (s_ G 63) v10) fun d9 =>
        q_X63_findGroup_26 N n x1 G d9
      else
      some D
    else
    some D
def q_X63_findGroup_23 (N : Nat) (x1 : Int) (ts0 : Int) (G : Gt) (D : Dt) : Option Dt :=
  lett (u_I D 6327 (s_ G 63) ts0) fun d1 =>
  q_X63_findGroup_26 N N x1 G d1
def q_X63_findGroup (N : Nat) (G : Gt) (D : Dt) : Option Dt :=
  bnd (q_X63_orderNow G D) fun v1 =>
  if v1 = (0 : Int) then
    q_X63_findGroup_23 N v1 (d_I D 6317 (s_ G 63)) G D
  else
  gd (in32 ((d_I D 6328 (s_ G 63)) + (1 : Int))) <|
  q_X63_findGroup_23 N v1 ((d_I D 6328 (s_ G 63)) + (1 : Int)) G D
/-- LayeredPicturesModel$PacketOrderModel.enter()V -/
def q_X63_enter (N : Nat) (G : Gt) (D : Dt) : Option Dt :=
  lett (q_X63_ways G D) fun v1 =>
  if (d_I D 6325 (s_ G 63)) < v1 then
    bnd (q_X63_orderNow G D) fun v2 =>
    bnd (q_X63_sort N v2 G D) fun d4 =>
    lett (u_I d4 6328 (s_ G 63) (0 : Int)) fun d5 =>
    bnd (q_X63_findGroup N G d5) fun d7 =>
    lett (u_I d7 6326 (s_ G 63) (0 : Int)) fun d8 =>
    lett (u_I d8 6329 (s_ G 63) (0 : Int)) fun d9 =>
    some d9
  else
  some D
/-- LayeredPicturesModel$PacketOrderModel.begin()I -/
def q_X63_begin_67 (N : Nat) (k57 : Int → Gt → Dt → Option (Int × Dt)) : Nat → Int → Int → Gt → Dt → Option (Int × Dt)
  | 0, _, _, _, _ => none
  | n + 1, x2, x3, G, D =>
    bnd (l_A D 16 6309 (s_ G 63) x2) fun v2 =>
    if v2 < x3 then
      gd (in32 (x2 + (1 : Int))) <|
      lett (x2 + (1 : Int)) fun v3 =>
      k57 v3 G D
    else
    bnd (q_X63_list N x2 x3 G D) fun d5 =>
    gd (in32 (x3 + (1 : Int))) <|
    lett (x3 + (1 : Int)) fun v6 =>
    q_X63_begin_67 N k57 n x2 v6 G d5
def q_X63_begin_57 (N : Nat) : Nat → Int → Gt → Dt → Option (Int × Dt)
  | 0, _, _, _ => none
  | n + 1, x2, G, D =>
    if (d_I D 6306 (s_ G 63)) ≤ x2 then
      lett (u_I D 6316 (s_ G 63) (1 : Int)) fun d1 =>
      lett (u_I d1 6330 (s_ G 63) (0 : Int)) fun d2 =>
      lett (u_I d2 6325 (s_ G 63) (0 : Int)) fun d3 =>
      bnd (q_X63_enter N G d3) fun d5 =>
      gd (in32 ((d_I D 6317 (s_ G 63)) * (d_I D 6312 (s_ G 63)))) <|
      some (((d_I D 6317 (s_ G 63)) * (d_I D 6312 (s_ G 63))), d5)
    else
    q_X63_begin_67 N (q_X63_begin_57 N n) N x2 (0 : Int) G D
def q_X63_begin_42 (N : Nat) (ts0 : Int) (ts1 : Int) (G : Gt) (D : Dt) : Option (Int × Dt) :=
  lett2 (q_X63_refuse ts1 ts0 G D) fun v3 d2 =>
  if v3 = (0 : Int) then
    lett (u_I d2 6317 (s_ G 63) (0 : Int)) fun d4 =>
    q_X63_begin_57 N N (0 : Int) G d4
  else
  some ((0 : Int), d2)
def q_X63_begin_41 (N : Nat) (ts0 : Int) (G : Gt) (D : Dt) : Option (Int × Dt) :=
  q_X63_begin_42 N (0 : Int) ts0 G D
def q_X63_begin_19 (N : Nat) (ts0 : Int) (G : Gt) (D : Dt) : Option (Int × Dt) :=
  if ts0 = (0 : Int) then
    bnd2 (q_X63_count N G D) fun v3 d2 =>
    if v3 ≤ (4096 : Int) then
      q_X63_begin_41 N ts0 G d2
    else
    q_X63_begin_42 N (1 : Int) ts0 G d2
  else
  q_X63_begin_41 N ts0 G D
def q_X63_begin_14 (N : Nat) (G : Gt) (D : Dt) : Option (Int × Dt) :=
  q_X63_begin_19 N (1 : Int) G D
def q_X63_begin (N : Nat) (G : Gt) (D : Dt) : Option (Int × Dt) :=
  if (d_I D 6301 (s_ G 63)) = (0 : Int) then
    q_X63_begin_14 N G D
  else
  if (d_I D 6306 (s_ G 63)) = (0 : Int) then
    q_X63_begin_14 N G D
  else
  q_X63_begin_19 N (0 : Int) G D
/-- LayeredPicturesModel$PacketOrderModel.belongs(I)Z -/
def q_X63_belongs (x1 : Int) (G : Gt) (D : Dt) : Option Int :=
  if (d_I D 6314 (s_ G 63)) = (0 : Int) then
    some (1 : Int)
  else
  gd (in32 ((6 : Int) * (d_I D 6325 (s_ G 63)))) <|
  lett ((6 : Int) * (d_I D 6325 (s_ G 63))) fun v1 =>
  bnd (l_A D 4096 6319 (s_ G 63) x1) fun v3 =>
  bnd (l_A D 192 6315 (s_ G 63) v1) fun v5 =>
  if v3 < v5 then
    some (0 : Int)
  else
  bnd (l_A D 4096 6319 (s_ G 63) x1) fun v7 =>
  gd (in32 (v1 + (1 : Int))) <|
  bnd (l_A D 192 6315 (s_ G 63) (v1 + (1 : Int))) fun v9 =>
  if v9 ≤ v7 then
    some (0 : Int)
  else
  bnd (l_A D 4096 6318 (s_ G 63) x1) fun v11 =>
  gd (in32 (v1 + (2 : Int))) <|
  bnd (l_A D 192 6315 (s_ G 63) (v1 + (2 : Int))) fun v13 =>
  if v11 < v13 then
    some (0 : Int)
  else
  bnd (l_A D 4096 6318 (s_ G 63) x1) fun v15 =>
  gd (in32 (v1 + (3 : Int))) <|
  bnd (l_A D 192 6315 (s_ G 63) (v1 + (3 : Int))) fun v17 =>
  if v17 ≤ v15 then
    some (0 : Int)
  else
  some (1 : Int)
/-- LayeredPicturesModel$PacketOrderModel.layerEnd()I -/
def q_X63_layerEnd_27 (ts0 : Int) (G : Gt) (D : Dt) : Option Int :=
  if (d_I D 6312 (s_ G 63)) ≤ ts0 then
    some (d_I D 6312 (s_ G 63))
  else
  some ts0
def q_X63_layerEnd (G : Gt) (D : Dt) : Option Int :=
  if (d_I D 6314 (s_ G 63)) = (0 : Int) then
    q_X63_layerEnd_27 (255 : Int) G D
  else
  gd (in32 ((6 : Int) * (d_I D 6325 (s_ G 63)))) <|
  gd (in32 (((6 : Int) * (d_I D 6325 (s_ G 63))) + (4 : Int))) <|
  bnd (l_A D 192 6315 (s_ G 63) (((6 : Int) * (d_I D 6325 (s_ G 63))) + (4 : Int))) fun v2 =>
  q_X63_layerEnd_27 v2 G D
/-- LayeredPicturesModel$PacketOrderModel.move()V -/
def q_X63_move (N : Nat) (G : Gt) (D : Dt) : Option Dt :=
  gd (in32 ((d_I D 6329 (s_ G 63)) + (1 : Int))) <|
  lett ((d_I D 6329 (s_ G 63)) + (1 : Int)) fun v2 =>
  lett (u_I D 6329 (s_ G 63) v2) fun d1 =>
  if (d_I D 6327 (s_ G 63)) ≤ v2 then
    gd (in32 ((d_I D 6326 (s_ G 63)) + (1 : Int))) <|
    lett ((d_I D 6326 (s_ G 63)) + (1 : Int)) fun v4 =>
    lett (u_I d1 6326 (s_ G 63) v4) fun d3 =>
    lett (d_I D 6328 (s_ G 63)) fun v6 =>
    lett (u_I d3 6329 (s_ G 63) v6) fun d5 =>
    bnd (q_X63_layerEnd G d5) fun v7 =>
    if v7 ≤ v4 then
      lett (u_I d5 6326 (s_ G 63) (0 : Int)) fun d8 =>
      lett (d_I D 6327 (s_ G 63)) fun v10 =>
      lett (u_I d8 6328 (s_ G 63) v10) fun d9 =>
      lett (u_I d9 6329 (s_ G 63) v10) fun d11 =>
      if (d_I D 6317 (s_ G 63)) ≤ v10 then
        gd (in32 ((d_I D 6325 (s_ G 63)) + (1 : Int))) <|
        lett ((d_I D 6325 (s_ G 63)) + (1 : Int)) fun v13 =>
        lett (u_I d11 6325 (s_ G 63) v13) fun d12 =>
        bnd (q_X63_enter N G d12) fun d15 =>
        some d15
      else
      bnd (q_X63_findGroup N G d11) fun d17 =>
      some d17
    else
    some d5
  else
  some d1
/-- LayeredPicturesModel$PacketOrderModel.advance()Z -/
def q_X63_advance_101 (N : Nat) (k2 : Int → Gt → Dt → Option (Int × Dt)) (x1 : Int) (G : Gt) (D : Dt) : Option (Int × Dt) :=
  bnd (q_X63_move N G D) fun d2 =>
  k2 x1 G d2
def q_X63_advance_60 (N : Nat) (k2 : Int → Gt → Dt → Option (Int × Dt)) (x2 : Int) (ts0 : Int) (G : Gt) (D : Dt) : Option (Int × Dt) :=
  if ts0 = (0 : Int) then
    q_X63_advance_101 N k2 ts0 G D
  else
  lett (u_I D 6331 (s_ G 63) x2) fun d1 =>
  lett (d_I D 6326 (s_ G 63)) fun v3 =>
  lett (u_I d1 6332 (s_ G 63) v3) fun d2 =>
  lett (d_I D 6325 (s_ G 63)) fun v5 =>
  lett (u_I d2 6333 (s_ G 63) v5) fun d4 =>
  bnd (l_A D 4096 6323 (s_ G 63) x2) fun v8 =>
  gd (in32 (v8 + (1 : Int))) <|
  bnd (t_A d4 4096 6323 (s_ G 63) x2 (v8 + (1 : Int))) fun d9 =>
  lett (u_I d9 6330 (s_ G 63) (1 : Int)) fun d10 =>
  q_X63_advance_101 N k2 ts0 G d10
def q_X63_advance_59 (N : Nat) (k2 : Int → Gt → Dt → Option (Int × Dt)) (x2 : Int) (G : Gt) (D : Dt) : Option (Int × Dt) :=
  q_X63_advance_60 N k2 x2 (0 : Int) G D
def q_X63_advance_2 (N : Nat) : Nat → Int → Gt → Dt → Option (Int × Dt)
  | 0, _, _, _ => none
  | n + 1, x1, G, D =>
    if x1 = (0 : Int) then
      lett (q_X63_ways G D) fun v1 =>
      if v1 ≤ (d_I D 6325 (s_ G 63)) then
        gd (bzi x1) <|
        some (x1, D)
      else
      if (d_I D 6317 (s_ G 63)) ≤ (0 : Int) then
        gd (bzi x1) <|
        some (x1, D)
      else
      bnd (l_A D 4096 6324 (s_ G 63) (d_I D 6329 (s_ G 63))) fun v3 =>
      bnd (q_X63_belongs v3 G D) fun v4 =>
      if v4 = (0 : Int) then
        q_X63_advance_59 N (q_X63_advance_2 N n) v3 G D
      else
      bnd (l_A D 4096 6323 (s_ G 63) v3) fun v6 =>
      if v6 = (d_I D 6326 (s_ G 63)) then
        q_X63_advance_60 N (q_X63_advance_2 N n) v3 (1 : Int) G D
      else
      q_X63_advance_59 N (q_X63_advance_2 N n) v3 G D
    else
    gd (bzi x1) <|
    some (x1, D)
def q_X63_advance (N : Nat) (G : Gt) (D : Dt) : Option (Int × Dt) :=
  q_X63_advance_2 N N (0 : Int) G D
/-- LayeredPicturesModel$PacketOrderModel.next()Z -/
def q_X63_next_13 (N : Nat) (ts0 : Int) (G : Gt) (D : Dt) : Option (Int × Dt) :=
  lett2 (q_X63_refuse ts0 (0 : Int) G D) fun v3 d2 =>
  if v3 = (0 : Int) then
    bnd2 (q_X63_advance N G d2) fun v6 d5 =>
    gd (bzi v6) <|
    some (v6, d5)
  else
  some ((0 : Int), d2)
def q_X63_next (N : Nat) (G : Gt) (D : Dt) : Option (Int × Dt) :=
  q_X63_next_13 N (if (d_I D 6316 (s_ G 63)) = (0 : Int) then (1 : Int) else (0 : Int)) G D
/-- LayeredPicturesModel$PacketOrderModel.packet(I)I -/
def q_X63_packet_29 (x1 : Int) (ts0 : Int) (G : Gt) (D : Dt) : Option (Int × Dt) :=
  lett2 (q_X63_refuse ts0 (0 : Int) G D) fun v3 d2 =>
  if v3 = (0 : Int) then
    if x1 = (0 : Int) then
      some ((d_I D 6332 (s_ G 63)), d2)
    else
    if x1 = (1 : Int) then
      bnd (l_A D 4096 6319 (s_ G 63) (d_I D 6331 (s_ G 63))) fun v5 =>
      some (v5, d2)
    else
    if x1 = (2 : Int) then
      bnd (l_A D 4096 6318 (s_ G 63) (d_I D 6331 (s_ G 63))) fun v7 =>
      some (v7, d2)
    else
    if x1 = (3 : Int) then
      bnd (l_A D 4096 6320 (s_ G 63) (d_I D 6331 (s_ G 63))) fun v9 =>
      some (v9, d2)
    else
    some ((d_I D 6333 (s_ G 63)), d2)
  else
  some ((0 : Int), d2)
def q_X63_packet_24 (x1 : Int) (G : Gt) (D : Dt) : Option (Int × Dt) :=
  q_X63_packet_29 x1 (1 : Int) G D
def q_X63_packet (x1 : Int) (G : Gt) (D : Dt) : Option (Int × Dt) :=
  if (d_I D 6316 (s_ G 63)) = (0 : Int) then
    q_X63_packet_24 x1 G D
  else
  if (d_I D 6330 (s_ G 63)) = (0 : Int) then
    q_X63_packet_24 x1 G D
  else
  if x1 < (0 : Int) then
    q_X63_packet_24 x1 G D
  else
  if x1 ≤ (4 : Int) then
    q_X63_packet_29 x1 (0 : Int) G D
  else
  q_X63_packet_24 x1 G D
