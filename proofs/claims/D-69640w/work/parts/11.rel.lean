/-! THE SMALL WORLD IN THE MODEL'S HEAP -/
set_option maxRecDepth 100000
abbrev cls : List vw_C := [(RX0, TX0, 19), (RX1, TX1, 3), (RX2, TX2, 4), (RX3, TX3, 2), (RX4, TX4, 13), (RX5, TX5, 9), (RX6, TX6, 8), (RX7, TX7, 25), (RX8, TX8, 2), (RX9, TX9, 5), (RX11, TX11, 8), (RX11, TX11, 8), (RX12, TX12, 5), (RX13, TX13, 20), (RX14, TX14, 32), (RX15, TX15, 64), (RX16, TX16, 53), (RJ3, TJ3, 6)]
def nf (t : Nat) : Nat := bif Nat.ble t 8 then (bif Nat.ble t 4 then (bif Nat.ble t 2 then (bif Nat.ble t 1 then (bif Nat.beq t 1 then 19 else 0) else (bif Nat.beq t 2 then 3 else 0)) else (bif Nat.ble t 3 then (bif Nat.beq t 3 then 4 else 0) else (bif Nat.beq t 4 then 2 else 0))) else (bif Nat.ble t 6 then (bif Nat.ble t 5 then (bif Nat.beq t 5 then 13 else 0) else (bif Nat.beq t 6 then 9 else 0)) else (bif Nat.ble t 7 then (bif Nat.beq t 7 then 8 else 0) else (bif Nat.beq t 8 then 25 else 0)))) else (bif Nat.ble t 13 then (bif Nat.ble t 10 then (bif Nat.ble t 9 then (bif Nat.beq t 9 then 2 else 0) else (bif Nat.beq t 10 then 5 else 0)) else (bif Nat.ble t 12 then (bif Nat.beq t 12 then 8 else 0) else (bif Nat.beq t 13 then 5 else 0))) else (bif Nat.ble t 15 then (bif Nat.ble t 14 then (bif Nat.beq t 14 then 20 else 0) else (bif Nat.beq t 15 then 32 else 0)) else (bif Nat.ble t 16 then (bif Nat.beq t 16 then 64 else 0) else (bif Nat.ble t 17 then (bif Nat.beq t 17 then 53 else 0) else (bif Nat.beq t 18 then 6 else 0)))))
def knd (t f : Nat) : Nat := bif Nat.ble t 8 then (bif Nat.ble t 4 then (bif Nat.ble t 2 then (bif Nat.ble t 1 then (bif Nat.beq t 1 then (bif Nat.ble f 6 then (bif Nat.ble f 2 then (bif Nat.ble f 0 then (bif Nat.beq f 0 then 2 else 0) else (bif Nat.ble f 1 then (bif Nat.beq f 1 then 2 else 0) else (bif Nat.beq f 2 then 2 else 0))) else (bif Nat.ble f 4 then (bif Nat.ble f 3 then (bif Nat.beq f 3 then 2 else 0) else (bif Nat.beq f 4 then 2 else 0)) else (bif Nat.ble f 5 then (bif Nat.beq f 5 then 2 else 0) else (bif Nat.beq f 6 then 2 else 0)))) else (bif Nat.ble f 9 then (bif Nat.ble f 7 then (bif Nat.beq f 7 then 2 else 0) else (bif Nat.ble f 8 then (bif Nat.beq f 8 then 2 else 0) else (bif Nat.beq f 9 then 3 else 0))) else (bif Nat.ble f 13 then (bif Nat.ble f 10 then (bif Nat.beq f 10 then 2 else 0) else (bif Nat.beq f 13 then 2 else 0)) else (bif Nat.ble f 15 then (bif Nat.beq f 15 then 2 else 0) else (bif Nat.beq f 18 then 3 else 0))))) else 0) else (bif Nat.beq t 2 then (bif Nat.beq f 0 then 2 else 0) else 0)) else (bif Nat.ble t 3 then (bif Nat.beq t 3 then (bif Nat.ble f 1 then (bif Nat.ble f 0 then (bif Nat.beq f 0 then 2 else 0) else (bif Nat.beq f 1 then 2 else 0)) else (bif Nat.ble f 2 then (bif Nat.beq f 2 then 2 else 0) else (bif Nat.beq f 3 then 2 else 0))) else 0) else (bif Nat.beq t 4 then (bif Nat.beq f 0 then 2 else 0) else 0))) else (bif Nat.ble t 6 then (bif Nat.ble t 5 then (bif Nat.beq t 5 then (bif Nat.ble f 6 then (bif Nat.ble f 3 then (bif Nat.ble f 0 then (bif Nat.beq f 0 then 2 else 0) else (bif Nat.ble f 1 then (bif Nat.beq f 1 then 2 else 0) else (bif Nat.beq f 3 then 2 else 0))) else (bif Nat.ble f 4 then (bif Nat.beq f 4 then 2 else 0) else (bif Nat.ble f 5 then (bif Nat.beq f 5 then 2 else 0) else (bif Nat.beq f 6 then 2 else 0)))) else (bif Nat.ble f 9 then (bif Nat.ble f 7 then (bif Nat.beq f 7 then 2 else 0) else (bif Nat.ble f 8 then (bif Nat.beq f 8 then 2 else 0) else (bif Nat.beq f 9 then 2 else 0))) else (bif Nat.ble f 10 then (bif Nat.beq f 10 then 2 else 0) else (bif Nat.ble f 11 then (bif Nat.beq f 11 then 2 else 0) else (bif Nat.beq f 12 then 2 else 0))))) else 0) else (bif Nat.beq t 6 then (bif Nat.ble f 3 then (bif Nat.ble f 1 then (bif Nat.ble f 0 then (bif Nat.beq f 0 then 2 else 0) else (bif Nat.beq f 1 then 2 else 0)) else (bif Nat.ble f 2 then (bif Nat.beq f 2 then 2 else 0) else (bif Nat.beq f 3 then 2 else 0))) else (bif Nat.ble f 5 then (bif Nat.ble f 4 then (bif Nat.beq f 4 then 2 else 0) else (bif Nat.beq f 5 then 2 else 0)) else (bif Nat.ble f 6 then (bif Nat.beq f 6 then 2 else 0) else (bif Nat.ble f 7 then (bif Nat.beq f 7 then 2 else 0) else (bif Nat.beq f 8 then 2 else 0))))) else 0)) else (bif Nat.ble t 7 then (bif Nat.beq t 7 then (bif Nat.ble f 2 then (bif Nat.ble f 0 then (bif Nat.beq f 0 then 2 else 0) else (bif Nat.ble f 1 then (bif Nat.beq f 1 then 2 else 0) else (bif Nat.beq f 2 then 2 else 0))) else (bif Nat.ble f 4 then (bif Nat.ble f 3 then (bif Nat.beq f 3 then 2 else 0) else (bif Nat.beq f 4 then 2 else 0)) else (bif Nat.ble f 5 then (bif Nat.beq f 5 then 2 else 0) else (bif Nat.beq f 7 then 3 else 0)))) else 0) else (bif Nat.beq t 8 then (bif Nat.ble f 9 then (bif Nat.ble f 4 then (bif Nat.ble f 1 then (bif Nat.ble f 0 then (bif Nat.beq f 0 then 2 else 0) else (bif Nat.beq f 1 then 2 else 0)) else (bif Nat.ble f 2 then (bif Nat.beq f 2 then 2 else 0) else (bif Nat.ble f 3 then (bif Nat.beq f 3 then 2 else 0) else (bif Nat.beq f 4 then 2 else 0)))) else (bif Nat.ble f 6 then (bif Nat.ble f 5 then (bif Nat.beq f 5 then 2 else 0) else (bif Nat.beq f 6 then 2 else 0)) else (bif Nat.ble f 7 then (bif Nat.beq f 7 then 2 else 0) else (bif Nat.ble f 8 then (bif Nat.beq f 8 then 2 else 0) else (bif Nat.beq f 9 then 2 else 0))))) else (bif Nat.ble f 14 then (bif Nat.ble f 11 then (bif Nat.ble f 10 then (bif Nat.beq f 10 then 2 else 0) else (bif Nat.beq f 11 then 2 else 0)) else (bif Nat.ble f 12 then (bif Nat.beq f 12 then 2 else 0) else (bif Nat.ble f 13 then (bif Nat.beq f 13 then 2 else 0) else (bif Nat.beq f 14 then 2 else 0)))) else (bif Nat.ble f 17 then (bif Nat.ble f 15 then (bif Nat.beq f 15 then 2 else 0) else (bif Nat.ble f 16 then (bif Nat.beq f 16 then 2 else 0) else (bif Nat.beq f 17 then 2 else 0))) else (bif Nat.ble f 20 then (bif Nat.beq f 20 then 2 else 0) else (bif Nat.ble f 21 then (bif Nat.beq f 21 then 2 else 0) else (bif Nat.beq f 23 then 1 else 0)))))) else 0)))) else (bif Nat.ble t 13 then (bif Nat.ble t 10 then (bif Nat.ble t 9 then (bif Nat.beq t 9 then (bif Nat.beq f 0 then 2 else 0) else 0) else (bif Nat.beq t 10 then (bif Nat.ble f 0 then (bif Nat.beq f 0 then 2 else 0) else (bif Nat.ble f 3 then (bif Nat.beq f 3 then 1 else 0) else (bif Nat.beq f 4 then 1 else 0))) else 0)) else (bif Nat.ble t 12 then (bif Nat.beq t 12 then (bif Nat.ble f 3 then (bif Nat.ble f 1 then (bif Nat.ble f 0 then (bif Nat.beq f 0 then 2 else 0) else (bif Nat.beq f 1 then 2 else 0)) else (bif Nat.ble f 2 then (bif Nat.beq f 2 then 2 else 0) else (bif Nat.beq f 3 then 2 else 0))) else (bif Nat.ble f 5 then (bif Nat.ble f 4 then (bif Nat.beq f 4 then 2 else 0) else (bif Nat.beq f 5 then 2 else 0)) else (bif Nat.ble f 6 then (bif Nat.beq f 6 then 2 else 0) else (bif Nat.beq f 7 then 2 else 0)))) else 0) else (bif Nat.beq t 13 then (bif Nat.ble f 1 then (bif Nat.ble f 0 then (bif Nat.beq f 0 then 2 else 0) else (bif Nat.beq f 1 then 2 else 0)) else (bif Nat.ble f 2 then (bif Nat.beq f 2 then 2 else 0) else (bif Nat.ble f 3 then (bif Nat.beq f 3 then 2 else 0) else (bif Nat.beq f 4 then 2 else 0)))) else 0))) else (bif Nat.ble t 15 then (bif Nat.ble t 14 then (bif Nat.beq t 14 then (bif Nat.ble f 4 then (bif Nat.ble f 1 then (bif Nat.ble f 0 then (bif Nat.beq f 0 then 2 else 0) else (bif Nat.beq f 1 then 2 else 0)) else (bif Nat.ble f 2 then (bif Nat.beq f 2 then 2 else 0) else (bif Nat.ble f 3 then (bif Nat.beq f 3 then 2 else 0) else (bif Nat.beq f 4 then 2 else 0)))) else (bif Nat.ble f 8 then (bif Nat.ble f 7 then (bif Nat.beq f 7 then 2 else 0) else (bif Nat.beq f 8 then 2 else 0)) else (bif Nat.ble f 9 then (bif Nat.beq f 9 then 2 else 0) else (bif Nat.ble f 11 then (bif Nat.beq f 11 then 2 else 0) else (bif Nat.beq f 14 then 2 else 0))))) else 0) else (bif Nat.beq t 15 then (bif Nat.ble f 14 then (bif Nat.ble f 8 then (bif Nat.ble f 4 then (bif Nat.ble f 1 then (bif Nat.beq f 1 then 2 else 0) else (bif Nat.ble f 3 then (bif Nat.beq f 3 then 2 else 0) else (bif Nat.beq f 4 then 2 else 0))) else (bif Nat.ble f 5 then (bif Nat.beq f 5 then 2 else 0) else (bif Nat.ble f 6 then (bif Nat.beq f 6 then 2 else 0) else (bif Nat.beq f 8 then 2 else 0)))) else (bif Nat.ble f 11 then (bif Nat.ble f 9 then (bif Nat.beq f 9 then 2 else 0) else (bif Nat.ble f 10 then (bif Nat.beq f 10 then 2 else 0) else (bif Nat.beq f 11 then 2 else 0))) else (bif Nat.ble f 12 then (bif Nat.beq f 12 then 2 else 0) else (bif Nat.ble f 13 then (bif Nat.beq f 13 then 2 else 0) else (bif Nat.beq f 14 then 2 else 0))))) else (bif Nat.ble f 21 then (bif Nat.ble f 18 then (bif Nat.ble f 15 then (bif Nat.beq f 15 then 2 else 0) else (bif Nat.ble f 16 then (bif Nat.beq f 16 then 2 else 0) else (bif Nat.beq f 18 then 2 else 0))) else (bif Nat.ble f 19 then (bif Nat.beq f 19 then 2 else 0) else (bif Nat.ble f 20 then (bif Nat.beq f 20 then 2 else 0) else (bif Nat.beq f 21 then 2 else 0)))) else (bif Nat.ble f 25 then (bif Nat.ble f 22 then (bif Nat.beq f 22 then 2 else 0) else (bif Nat.ble f 23 then (bif Nat.beq f 23 then 2 else 0) else (bif Nat.beq f 25 then 2 else 0))) else (bif Nat.ble f 28 then (bif Nat.ble f 27 then (bif Nat.beq f 27 then 2 else 0) else (bif Nat.beq f 28 then 2 else 0)) else (bif Nat.ble f 29 then (bif Nat.beq f 29 then 2 else 0) else (bif Nat.beq f 30 then 2 else 0)))))) else 0)) else (bif Nat.ble t 16 then (bif Nat.beq t 16 then (bif Nat.ble f 29 then (bif Nat.ble f 16 then (bif Nat.ble f 6 then (bif Nat.ble f 1 then (bif Nat.ble f 0 then (bif Nat.beq f 0 then 2 else 0) else (bif Nat.beq f 1 then 2 else 0)) else (bif Nat.ble f 2 then (bif Nat.beq f 2 then 3 else 0) else (bif Nat.ble f 3 then (bif Nat.beq f 3 then 2 else 0) else (bif Nat.beq f 6 then 2 else 0)))) else (bif Nat.ble f 13 then (bif Nat.ble f 8 then (bif Nat.beq f 8 then 2 else 0) else (bif Nat.ble f 9 then (bif Nat.beq f 9 then 2 else 0) else (bif Nat.beq f 13 then 2 else 0))) else (bif Nat.ble f 14 then (bif Nat.beq f 14 then 2 else 0) else (bif Nat.ble f 15 then (bif Nat.beq f 15 then 2 else 0) else (bif Nat.beq f 16 then 2 else 0))))) else (bif Nat.ble f 22 then (bif Nat.ble f 18 then (bif Nat.ble f 17 then (bif Nat.beq f 17 then 2 else 0) else (bif Nat.beq f 18 then 2 else 0)) else (bif Nat.ble f 20 then (bif Nat.beq f 20 then 2 else 0) else (bif Nat.ble f 21 then (bif Nat.beq f 21 then 2 else 0) else (bif Nat.beq f 22 then 2 else 0)))) else (bif Nat.ble f 26 then (bif Nat.ble f 23 then (bif Nat.beq f 23 then 2 else 0) else (bif Nat.ble f 24 then (bif Nat.beq f 24 then 2 else 0) else (bif Nat.beq f 26 then 2 else 0))) else (bif Nat.ble f 27 then (bif Nat.beq f 27 then 2 else 0) else (bif Nat.ble f 28 then (bif Nat.beq f 28 then 2 else 0) else (bif Nat.beq f 29 then 2 else 0)))))) else (bif Nat.ble f 41 then (bif Nat.ble f 34 then (bif Nat.ble f 31 then (bif Nat.ble f 30 then (bif Nat.beq f 30 then 2 else 0) else (bif Nat.beq f 31 then 2 else 0)) else (bif Nat.ble f 32 then (bif Nat.beq f 32 then 2 else 0) else (bif Nat.ble f 33 then (bif Nat.beq f 33 then 2 else 0) else (bif Nat.beq f 34 then 2 else 0)))) else (bif Nat.ble f 37 then (bif Nat.ble f 35 then (bif Nat.beq f 35 then 2 else 0) else (bif Nat.ble f 36 then (bif Nat.beq f 36 then 3 else 0) else (bif Nat.beq f 37 then 3 else 0))) else (bif Nat.ble f 38 then (bif Nat.beq f 38 then 3 else 0) else (bif Nat.ble f 40 then (bif Nat.beq f 40 then 1 else 0) else (bif Nat.beq f 41 then 2 else 0))))) else (bif Nat.ble f 46 then (bif Nat.ble f 43 then (bif Nat.ble f 42 then (bif Nat.beq f 42 then 2 else 0) else (bif Nat.beq f 43 then 2 else 0)) else (bif Nat.ble f 44 then (bif Nat.beq f 44 then 2 else 0) else (bif Nat.ble f 45 then (bif Nat.beq f 45 then 2 else 0) else (bif Nat.beq f 46 then 2 else 0)))) else (bif Nat.ble f 49 then (bif Nat.ble f 47 then (bif Nat.beq f 47 then 2 else 0) else (bif Nat.ble f 48 then (bif Nat.beq f 48 then 2 else 0) else (bif Nat.beq f 49 then 2 else 0))) else (bif Nat.ble f 50 then (bif Nat.beq f 50 then 2 else 0) else (bif Nat.ble f 51 then (bif Nat.beq f 51 then 2 else 0) else (bif Nat.beq f 63 then 3 else 0))))))) else 0) else (bif Nat.ble t 17 then (bif Nat.beq t 17 then (bif Nat.ble f 29 then (bif Nat.ble f 18 then (bif Nat.ble f 12 then (bif Nat.ble f 9 then (bif Nat.ble f 8 then (bif Nat.beq f 8 then 2 else 0) else (bif Nat.beq f 9 then 2 else 0)) else (bif Nat.ble f 10 then (bif Nat.beq f 10 then 2 else 0) else (bif Nat.ble f 11 then (bif Nat.beq f 11 then 2 else 0) else (bif Nat.beq f 12 then 2 else 0)))) else (bif Nat.ble f 15 then (bif Nat.ble f 13 then (bif Nat.beq f 13 then 2 else 0) else (bif Nat.ble f 14 then (bif Nat.beq f 14 then 2 else 0) else (bif Nat.beq f 15 then 2 else 0))) else (bif Nat.ble f 16 then (bif Nat.beq f 16 then 2 else 0) else (bif Nat.ble f 17 then (bif Nat.beq f 17 then 2 else 0) else (bif Nat.beq f 18 then 2 else 0))))) else (bif Nat.ble f 23 then (bif Nat.ble f 20 then (bif Nat.ble f 19 then (bif Nat.beq f 19 then 2 else 0) else (bif Nat.beq f 20 then 2 else 0)) else (bif Nat.ble f 21 then (bif Nat.beq f 21 then 2 else 0) else (bif Nat.ble f 22 then (bif Nat.beq f 22 then 2 else 0) else (bif Nat.beq f 23 then 2 else 0)))) else (bif Nat.ble f 26 then (bif Nat.ble f 24 then (bif Nat.beq f 24 then 2 else 0) else (bif Nat.ble f 25 then (bif Nat.beq f 25 then 2 else 0) else (bif Nat.beq f 26 then 2 else 0))) else (bif Nat.ble f 27 then (bif Nat.beq f 27 then 2 else 0) else (bif Nat.ble f 28 then (bif Nat.beq f 28 then 2 else 0) else (bif Nat.beq f 29 then 2 else 0)))))) else (bif Nat.ble f 40 then (bif Nat.ble f 34 then (bif Nat.ble f 31 then (bif Nat.ble f 30 then (bif Nat.beq f 30 then 2 else 0) else (bif Nat.beq f 31 then 2 else 0)) else (bif Nat.ble f 32 then (bif Nat.beq f 32 then 2 else 0) else (bif Nat.ble f 33 then (bif Nat.beq f 33 then 2 else 0) else (bif Nat.beq f 34 then 2 else 0)))) else (bif Nat.ble f 37 then (bif Nat.ble f 35 then (bif Nat.beq f 35 then 2 else 0) else (bif Nat.ble f 36 then (bif Nat.beq f 36 then 2 else 0) else (bif Nat.beq f 37 then 2 else 0))) else (bif Nat.ble f 38 then (bif Nat.beq f 38 then 2 else 0) else (bif Nat.ble f 39 then (bif Nat.beq f 39 then 2 else 0) else (bif Nat.beq f 40 then 2 else 0))))) else (bif Nat.ble f 46 then (bif Nat.ble f 43 then (bif Nat.ble f 41 then (bif Nat.beq f 41 then 2 else 0) else (bif Nat.ble f 42 then (bif Nat.beq f 42 then 2 else 0) else (bif Nat.beq f 43 then 2 else 0))) else (bif Nat.ble f 44 then (bif Nat.beq f 44 then 2 else 0) else (bif Nat.ble f 45 then (bif Nat.beq f 45 then 2 else 0) else (bif Nat.beq f 46 then 2 else 0)))) else (bif Nat.ble f 49 then (bif Nat.ble f 47 then (bif Nat.beq f 47 then 2 else 0) else (bif Nat.ble f 48 then (bif Nat.beq f 48 then 2 else 0) else (bif Nat.beq f 49 then 2 else 0))) else (bif Nat.ble f 50 then (bif Nat.beq f 50 then 2 else 0) else (bif Nat.ble f 51 then (bif Nat.beq f 51 then 2 else 0) else (bif Nat.beq f 52 then 2 else 0))))))) else 0) else (bif Nat.beq t 18 then (bif Nat.ble f 1 then (bif Nat.ble f 0 then (bif Nat.beq f 0 then 2 else 0) else (bif Nat.beq f 1 then 2 else 0)) else (bif Nat.ble f 2 then (bif Nat.beq f 2 then 2 else 0) else (bif Nat.ble f 3 then (bif Nat.beq f 3 then 2 else 0) else (bif Nat.beq f 4 then 2 else 0)))) else 0)))))
def vlv (θ : Nat → Nat) : Vl → Value
  | .inl x => .int (Int32.ofInt x)
  | .inr (.inl x) => .long (Int64.ofInt x)
  | .inr (.inr (.inl a)) => .ref (θ a)
  | .inr (.inr (.inr ())) => .null
/-- a value is one: numbers in their range, references to what is there -/
def okv (n : Nat) : Vl → Prop
  | .inl x => r32 x
  | .inr (.inl x) => r64 x
  | .inr (.inr (.inl a)) => 1 ≤ a ∧ a < n
  | .inr (.inr (.inr ())) => True
def fvl (θ : Nat → Nat) (d : Int → Int) (r : Nat → Nat) (k kd : Nat) : Value := match kd with
  | 1 => .long (Int64.ofInt (d k))
  | 2 => bif Nat.beq (r k) 0 then .null else .ref (θ (r k))
  | _ => .int (Int32.ofInt (d k))
/-- a cell: of a class, or an array -/
def ety (θ : Nat → Nat) (fe : Nat → List Value) (tc : Nat → ClassId) (a : Nat) (d : Int → Int) (r : Nat → Nat) (tl : Nat × Nat) : va_E :=
  bif Nat.beq tl.1 18 then .inr (17, fe a)
  else bif Nat.ble tl.1 17 then .inr (tl.1 - 1, (List.range (nf tl.1)).map fun k => fvl θ d r k (knd tl.1 k))
  else bif Nat.beq tl.1 54 then .inl (tc 54, tl.2, .inr (.inl fun j => Int64.ofInt (d j)))
  else bif Nat.beq tl.1 55 then .inl (tc 50, (d (-1)).toNat, .inl fun j => Int32.ofInt (d j))
  else .inl (tc tl.1, tl.2, .inl fun j => Int32.ofInt (d j))
def wsf (θ : Nat → Nat) (fe : Nat → List Value) (tc : Nat → ClassId) (w : Wd) : va_W := (List.range (nx w - 50)).map fun k => (θ (50 + k), ety θ fe tc (50 + k) (w.1 (50 + k)) (w.2.1 (50 + k)) (w.2.2.1 (50 + k)))
abbrev tysf (tc : Nat → ClassId) : List (ClassId × FieldType) := [(tc 50, .int), (tc 52, .byte), (tc 53, .boolean), (tc 54, .long)]
def tcell (t : Nat) : Bool := (Nat.ble 1 t && Nat.ble t 18) || Nat.beq t 50 || (Nat.ble 52 t && Nat.ble t 55)
/-- whether a place holds a long -/
def lng (t : Nat) (i : Int) : Bool := Nat.beq t 54 || (Nat.ble t 17 && Nat.beq (knd t i.toNat) 1)
def rsum (D : Dt) : Nat := (rws.map fun a => (D a (-1)).toNat).sum
def Cw (w : Wd) : Nat := nx w + rsum w.1
def Sw (w : Wd) : Nat := us w + 2 * rsum w.1
def Wok (w : Wd) : Prop :=
  (50 ≤ nx w ∧ nx w ≤ 1001 ∧ us w ≤ 1000000) ∧
  (∀ a, tcell (tg w a) = true ↔ (50 ≤ a ∧ a < nx w)) ∧
  (∀ a, ln w a ≤ 100000) ∧
  (∀ a, 0 ≤ w.1 a (-1) ∧ w.1 a (-1) ≤ 8192 ∧ (nx w ≤ a → w.1 a (-1) = 0) ∧ (tg w a = 55 → a ∈ rws)) ∧
  (∀ a i, r64 (w.1 a i) ∧ (lng (tg w a) i = false → r32 (w.1 a i)) ∧ (tg w a = 52 → -128 ≤ w.1 a i ∧ w.1 a i ≤ 127) ∧ (tg w a = 53 → 0 ≤ w.1 a i ∧ w.1 a i ≤ 1)) ∧
  (∀ a f, w.2.1 a f < nx w)
theorem wsf_at {θ : Nat → Nat} {fe : Nat → List Value} {tc : Nat → ClassId} {w : Wd} {a : Nat} (h : 50 ≤ a) (h' : a < nx w) : (wsf θ fe tc w)[a - 50]? = some (θ a, ety θ fe tc a (w.1 a) (w.2.1 a) (w.2.2.1 a)) := by
  unfold wsf
  rw [List.getElem?_map, List.getElem?_range (show a - 50 < nx w - 50 by omega)]
  simp only [Option.map_some]
  rw [show 50 + (a - 50) = a by omega]
theorem wsf_set {θ : Nat → Nat} {fe : Nat → List Value} {tc : Nat → ClassId} {w w' : Wd} {a : Nat} {x : va_E} (h : 50 ≤ a) (h' : a < nx w) (hn : nx w' = nx w) (hx : x = ety θ fe tc a (w'.1 a) (w'.2.1 a) (w'.2.2.1 a)) (ho : ∀ b, b ≠ a → w'.1 b = w.1 b ∧ w'.2.1 b = w.2.1 b ∧ w'.2.2.1 b = w.2.2.1 b) : (wsf θ fe tc w).set (a - 50) (θ a, x) = wsf θ fe tc w' := by
  apply List.ext_getElem?
  intro k
  unfold wsf
  rw [List.getElem?_set]
  by_cases hk : a - 50 = k
  · subst hk
    rw [if_pos rfl, if_pos (by simp; omega), List.getElem?_map, List.getElem?_range (show a - 50 < nx w' - 50 by omega)]
    simp only [Option.map_some]
    rw [show 50 + (a - 50) = a by omega, hx]
  · rw [if_neg hk, List.getElem?_map, List.getElem?_map, hn]
    by_cases hl : k < nx w - 50
    · rw [List.getElem?_range hl]
      simp only [Option.map_some]
      obtain ⟨h1, h2, h3⟩ := ho (50 + k) (by omega)
      rw [h1, h2, h3]
    · rw [List.getElem?_eq_none (by simp; omega)]
      rfl
theorem wsf_push {θ θ' : Nat → Nat} {fe fe' : Nat → List Value} {tc : Nat → ClassId} {w w' : Wd} {q : Nat} {x : va_E} (h : 50 ≤ nx w) (hn : nx w' = nx w + 1) (hq : θ' (nx w) = q) (hx : x = ety θ' fe' tc (nx w) (w'.1 (nx w)) (w'.2.1 (nx w)) (w'.2.2.1 (nx w))) (ho : ∀ b, b < nx w → 50 ≤ b → θ' b = θ b ∧ ety θ' fe' tc b (w'.1 b) (w'.2.1 b) (w'.2.2.1 b) = ety θ fe tc b (w.1 b) (w.2.1 b) (w.2.2.1 b)) : wsf θ fe tc w ++ [(q, x)] = wsf θ' fe' tc w' := by
  unfold wsf
  rw [hn, show nx w + 1 - 50 = (nx w - 50) + 1 by omega, List.range_succ, List.map_append]
  congr 1
  · apply List.map_congr_left
    intro k hk
    have hk := List.mem_range.mp hk
    obtain ⟨h1, h2⟩ := ho (50 + k) (by omega) (by omega)
    rw [h1, h2]
  · simp only [List.map_cons, List.map_nil]
    rw [show 50 + (nx w - 50) = nx w by omega, hq, hx]
theorem map_set {α : Type} (n : Nat) (g : Nat → α) (k : Nat) (v : α) : ((List.range n).map g).set k v = (List.range n).map (fun j => if j = k then v else g j) := by
  apply List.ext_getElem?
  intro j
  rw [List.getElem?_set]
  by_cases hj : k = j
  · subst hj
    rw [if_pos rfl]
    by_cases hl : k < n
    · rw [if_pos (by simp; exact hl), List.getElem?_map, List.getElem?_range hl]
      simp
    · rw [if_neg (by simp; omega), List.getElem?_eq_none (by simp; omega)]
  · rw [if_neg hj, List.getElem?_map, List.getElem?_map]
    by_cases hl : j < n
    · rw [List.getElem?_range hl]
      simp [show ¬ j = k from fun e => hj e.symm]
    · rw [List.getElem?_eq_none (by simp; omega)]
      rfl
theorem up_ne {D : Dt} {a b : Nat} {i v : Int} (h : b ≠ a) : up D a i v b = D b := by
  funext j
  simp [up, h]
theorem up_at {D : Dt} {a : Nat} {i v j : Int} : up D a i v a j = if j = i then v else D a j := by simp [up]
/-- the locals -/
def prl (θ : Nat → Nat) (ls : List Vl) (j : Nat) : Option (Nat × Value) := match ls[j]? with
  | some (.inl x) => some (j, .int (Int32.ofInt x))
  | some (.inr (.inl x)) => (match ls[j + 1]? with
    | some (.inr (.inr (.inr ()))) => some (j, .long (Int64.ofInt x))
    | _ => none)
  | some (.inr (.inr (.inl a))) => some (j, .ref (θ a))
  | _ => none
def prs (θ : Nat → Nat) (ls : List Vl) : List (Nat × Value) := (List.range ls.length).filterMap (prl θ ls)
def Ls (θ : Nat → Nat) (n : Nat) (ls : List Vl) (lsJ : Array Slot) (nL : Nat) : Prop := ls.length = nL ∧ lv_has lsJ nL (prs θ ls) ∧ ∀ v ∈ ls, okv n v
theorem Ls.i {θ : Nat → Nat} {n nL j : Nat} {ls : List Vl} {lsJ : Array Slot} {x : Int} (h : Ls θ n ls lsJ nL) (hj : ls[j]? = some (.inl x)) : lsJ[j]? = some (.val (.int (Int32.ofInt x))) ∧ r32 x := by
  refine ⟨h.2.1.2.2 (j, .int (Int32.ofInt x)) (List.mem_filterMap.mpr ⟨j, List.mem_range.mpr (List.getElem?_eq_some_iff.mp hj).1, ?_⟩), h.2.2 _ (List.mem_of_getElem? hj)⟩
  unfold prl
  rw [hj]
theorem Ls.a {θ : Nat → Nat} {n nL j : Nat} {ls : List Vl} {lsJ : Array Slot} {x : Nat} (h : Ls θ n ls lsJ nL) (hj : ls[j]? = some (.inr (.inr (.inl x)))) : lsJ[j]? = some (.val (.ref (θ x))) ∧ 1 ≤ x ∧ x < n := by
  refine ⟨h.2.1.2.2 (j, .ref (θ x)) (List.mem_filterMap.mpr ⟨j, List.mem_range.mpr (List.getElem?_eq_some_iff.mp hj).1, ?_⟩), h.2.2 _ (List.mem_of_getElem? hj)⟩
  unfold prl
  rw [hj]
theorem Ls.l {θ : Nat → Nat} {n nL j : Nat} {ls : List Vl} {lsJ : Array Slot} {x : Int} (h : Ls θ n ls lsJ nL) (hj : ls[j]? = some (.inr (.inl x))) (hk : ls[j + 1]? = some vu) : lsJ[j]? = some (.val (.long (Int64.ofInt x))) ∧ r64 x := by
  refine ⟨h.2.1.2.2 (j, .long (Int64.ofInt x)) (List.mem_filterMap.mpr ⟨j, List.mem_range.mpr (List.getElem?_eq_some_iff.mp hj).1, ?_⟩), h.2.2 _ (List.mem_of_getElem? hj)⟩
  unfold prl
  rw [hj, hk]
theorem prl_cat {θ : Nat → Nat} {ls : List Vl} {j : Nat} {q : Nat × Value} (h : prl θ ls j = some q) : q.1 = j ∧ (q.2.category = 2 → ls[j + 1]? = some vu) := by
  unfold prl at h
  split at h
  · cases h; exact ⟨rfl, fun h => by simp [Value.category] at h⟩
  · split at h
    · next e => cases h; exact ⟨rfl, fun _ => e⟩
    · cases h
  · cases h; exact ⟨rfl, fun h => by simp [Value.category] at h⟩
  · cases h
theorem prs_mem {θ : Nat → Nat} {ls : List Vl} {q : Nat × Value} : q ∈ prs θ ls ↔ prl θ ls q.1 = some q := by
  unfold prs
  rw [List.mem_filterMap]
  constructor
  · rintro ⟨j, hj, h⟩
    obtain ⟨e, -⟩ := prl_cat h
    rw [e]
    exact h
  · intro h
    refine ⟨q.1, List.mem_range.mpr ?_, h⟩
    unfold prl at h
    cases hh : ls[q.1]? with
    | none => rw [hh] at h; cases h
    | some v => exact (List.getElem?_eq_some_iff.mp hh).1
theorem Ls.st1 {θ : Nat → Nat} {n nL j : Nat} {ls : List Vl} {lsJ lsJ' : Array Slot} {v : Vl} (h : Ls θ n ls lsJ nL) (hok : okv n v) (hv : v ≠ vu) (hp : ∀ q, prl θ (ls.set j v) j = some q → q = (j, vlv θ v)) (hh : lv_has lsJ' nL ((j, vlv θ v) :: (prs θ ls).filter (fun q => !(q.1 == j) && !(q.1 + 1 == j && q.2.category == 2)))) : Ls θ n (ls.set j v) lsJ' nL := by
  refine ⟨by rw [List.length_set]; exact h.1, ⟨hh.1, hh.2.1, fun q hq => hh.2.2 q ?_⟩, fun x hx => ?_⟩
  · have hq := prs_mem.mp hq
    by_cases e : q.1 = j
    · rw [e] at hq
      rw [hp q hq]
      exact List.mem_cons_self
    · refine List.mem_cons_of_mem _ (List.mem_filter.mpr ⟨prs_mem.mpr ?_, ?_⟩)
      · unfold prl at hq ⊢
        rw [List.getElem?_set_ne (fun z => e z.symm)] at hq
        split at hq
        · exact hq
        · next e2 =>
          by_cases e3 : j = q.1 + 1
          · subst e3
            exfalso
            rw [List.getElem?_set] at hq
            simp only [↓reduceIte] at hq
            split at hq
            · next e4 =>
              split at e4
              · exact hv (Option.some.inj e4)
              · cases e4
            · cases hq
          · rw [List.getElem?_set_ne e3] at hq
            exact hq
        · exact hq
        · cases hq
      · have hc := (prl_cat hq).2
        simp only [Bool.and_eq_true, Bool.not_eq_true', beq_eq_false_iff_ne, ne_eq, Bool.and_eq_false_imp, beq_iff_eq]
        refine ⟨e, fun e3 => ?_⟩
        intro e4
        have := hc e4
        subst e3
        rw [List.getElem?_set] at this
        simp only [↓reduceIte] at this
        split at this
        · exact hv (Option.some.inj this)
        · cases this
  · rcases List.mem_or_eq_of_mem_set hx with h1 | h1
    · exact h.2.2 x h1
    · rw [h1]; exact hok
theorem Ls.sti {θ : Nat → Nat} {n nL j : Nat} {ls : List Vl} {lsJ lsJ' : Array Slot} {x : Int} (h : Ls θ n ls lsJ nL) (hok : r32 x) (hh : lv_has lsJ' nL ((j, Value.int (Int32.ofInt x)) :: (prs θ ls).filter (fun q => !(q.1 == j) && !(q.1 + 1 == j && q.2.category == 2)))) : Ls θ n (ls.set j (vi x)) lsJ' nL := by
  refine h.st1 (v := vi x) hok (fun z => by cases z) (fun q hq => ?_) hh
  unfold prl at hq
  rw [List.getElem?_set] at hq
  simp only [↓reduceIte] at hq
  split at hq <;> simp_all [vlv]
theorem Ls.sta {θ : Nat → Nat} {n nL j : Nat} {ls : List Vl} {lsJ lsJ' : Array Slot} {x : Nat} (h : Ls θ n ls lsJ nL) (hok : 1 ≤ x ∧ x < n) (hh : lv_has lsJ' nL ((j, Value.ref (θ x)) :: (prs θ ls).filter (fun q => !(q.1 == j) && !(q.1 + 1 == j && q.2.category == 2)))) : Ls θ n (ls.set j (vr x)) lsJ' nL := by
  refine h.st1 (v := vr x) hok (fun z => by cases z) (fun q hq => ?_) hh
  unfold prl at hq
  rw [List.getElem?_set] at hq
  simp only [↓reduceIte] at hq
  split at hq <;> simp_all [vlv]
theorem Ls.stl {θ : Nat → Nat} {n nL j : Nat} {ls : List Vl} {lsJ lsJ' : Array Slot} {x : Int} (h : Ls θ n ls lsJ nL) (hok : r64 x) (hh : lv_has lsJ' nL ((j, Value.long (Int64.ofInt x)) :: (prs θ ls).filter (fun q => !(q.1 == j) && (!(q.1 == j + 1) && !(q.1 + 1 == j && q.2.category == 2))))) : Ls θ n ((ls.set j (vl x)).set (j + 1) vu) lsJ' nL := by
  refine ⟨by rw [List.length_set, List.length_set]; exact h.1, ⟨hh.1, hh.2.1, fun q hq => hh.2.2 q ?_⟩, fun y hy => ?_⟩
  · have hq := prs_mem.mp hq
    by_cases e : q.1 = j
    · have : q = (j, Value.long (Int64.ofInt x)) := by
        unfold prl at hq
        rw [e, List.getElem?_set_ne (by omega), List.getElem?_set] at hq
        simp only [↓reduceIte] at hq
        split at hq
        · next e1 => split at e1 <;> cases e1
        · next e1 =>
          split at hq
          · cases hq
            split at e1
            · cases e1; rfl
            · cases e1
          · cases hq
        · next e1 => split at e1 <;> cases e1
        · cases hq
      rw [this]
      exact List.mem_cons_self
    · by_cases e' : q.1 = j + 1
      · exfalso
        unfold prl at hq
        rw [e', List.getElem?_set] at hq
        simp only [↓reduceIte] at hq
        split at hq
        · next e1 => split at e1 <;> cases e1
        · next e1 => split at e1 <;> cases e1
        · next e1 => split at e1 <;> cases e1
        · cases hq
      · refine List.mem_cons_of_mem _ (List.mem_filter.mpr ⟨prs_mem.mpr ?_, ?_⟩)
        · unfold prl at hq ⊢
          rw [List.getElem?_set_ne (by omega), List.getElem?_set_ne (by omega)] at hq
          split at hq
          · exact hq
          · next e2 =>
            rw [List.getElem?_set_ne (by omega)] at hq
            by_cases e3 : j = q.1 + 1
            · subst e3
              exfalso
              rw [List.getElem?_set] at hq
              simp only [↓reduceIte] at hq
              split at hq
              · next e4 => split at e4 <;> cases e4
              · cases hq
            · rw [List.getElem?_set_ne e3] at hq
              exact hq
          · exact hq
          · cases hq
        · have hc := (prl_cat hq).2
          simp only [Bool.and_eq_true, Bool.not_eq_true', beq_eq_false_iff_ne, ne_eq, Bool.and_eq_false_imp, beq_iff_eq]
          refine ⟨e, e', fun e3 => ?_⟩
          intro e4
          have := hc e4
          subst e3
          rw [List.getElem?_set_ne (by omega), List.getElem?_set] at this
          simp only [↓reduceIte] at this
          split at this <;> cases this
  · rcases List.mem_or_eq_of_mem_set hy with h1 | h1
    · rcases List.mem_or_eq_of_mem_set h1 with h2 | h2
      · exact h.2.2 y h2
      · rw [h2]; exact hok
    · rw [h1]; trivial
