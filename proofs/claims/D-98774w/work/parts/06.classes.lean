/-! THE CLASSES OF THE PICTURES, the array classes -/
abbrev zCl : List vw_C := [(RX6, TX6, 22), (RX1, TX1, 10), (RX2, TX2, 21), (RX3, TX3, 7), (RX4, TX4, 9), (RX5, TX5, 2), (RX7, TX7, 6), (RX8, TX8, 1), (RX9, TX9, 3), (RX10, TX10, 2), (RX11, TX11, 1), (RX12, TX12, 1), (RX13, TX13, 1), (RX14, TX14, 2), (RX16, TX16, 2), (RJ2, TJ2, 3), (RJ4, TJ4, 4), (RJ5, TJ5, 4)]
abbrev zTys (k : Nat → ClassId) : List (ClassId × FieldType) := [(k 0, .int), (k 1, .boolean), (k 2, .byte), (k 3, .long), (k 4, .object "java/lang/Object")]
